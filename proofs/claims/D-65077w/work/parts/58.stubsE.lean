section
/-! contracts: printed by tools/mk.py out of s62_small.py -/
set_option maxRecDepth 100000
set_option maxHeartbeats 1500000
/-- the least of g below n where p holds; -1 when there is none -/
noncomputable def mnN (p : Int → Prop) (g : Int → Int) : Nat → Int
  | 0 => -1
  | n + 1 => if zb (p n) = 1 then (if mnN p g n < 0 then g n else min (mnN p g n) (g n)) else mnN p g n
noncomputable def mnP (p : Int → Prop) (g : Int → Int) (n : Int) : Int := mnN p g n.toNat
theorem mnP_0 (p : Int → Prop) (g : Int → Int) (n : Int) (h : n ≤ 0) : mnP p g n = -1 := by unfold mnP; rw [show n.toNat = 0 by omega]; rfl
theorem mnP_e (p : Int → Prop) (g : Int → Int) (n m : Int) (h : 0 ≤ n) (hm : m = n + 1) : mnP p g m = if zb (p n) = 1 then (if mnP p g n < 0 then g n else min (mnP p g n) (g n)) else mnP p g n := by
  unfold mnP
  rw [show m.toNat = n.toNat + 1 by omega]
  show (if zb (p (n.toNat : Nat)) = 1 then (if mnN p g n.toNat < 0 then g (n.toNat : Nat) else min (mnN p g n.toNat) (g (n.toNat : Nat))) else mnN p g n.toNat) = _
  rw [show ((n.toNat : Nat) : Int) = n by omega]
theorem mnP_t (p : Int → Prop) (g : Int → Int) (n m : Int) (h : 0 ≤ n) (hm : m = n + 1) (hp : p n) : mnP p g m = if mnP p g n < 0 then g n else min (mnP p g n) (g n) := by rw [mnP_e p g n m h hm, if_pos (zb_t hp)]
theorem mnP_f (p : Int → Prop) (g : Int → Int) (n m : Int) (h : 0 ≤ n) (hm : m = n + 1) (hp : ¬ p n) : mnP p g m = mnP p g n := by rw [mnP_e p g n m h hm, if_neg (by rw [zb_f hp]; decide)]
theorem mnP_cg {p q : Int → Prop} {g f : Int → Int} {n : Int} (h : ∀ k, 0 ≤ k → k < n → (p k ↔ q k)) (hf : ∀ k, 0 ≤ k → k < n → p k → g k = f k) : mnP p g n = mnP q f n := by
  unfold mnP
  have key : ∀ m : Nat, (m : Int) ≤ n ∨ m = 0 → mnN p g m = mnN q f m := by
    intro m
    induction m with
    | zero => intro _; rfl
    | succ m ih =>
      intro hm
      show (if zb (p m) = 1 then (if mnN p g m < 0 then g m else min (mnN p g m) (g m)) else mnN p g m) = if zb (q m) = 1 then (if mnN q f m < 0 then f m else min (mnN q f m) (f m)) else mnN q f m
      rw [ih (Or.inl (by omega)), zb_iff (h m (by omega) (by omega))]
      by_cases z : q m
      · rw [hf m (by omega) (by omega) ((h m (by omega) (by omega)).mpr z)]
      · rw [if_neg (by rw [zb_f z]; decide), if_neg (by rw [zb_f z]; decide)]
  exact key n.toNat (by omega)
theorem mnP_in (p : Int → Prop) (g : Int → Int) (B n : Int) (hB : ∀ k, 0 ≤ k → k < n → p k → 0 ≤ g k ∧ g k ≤ B) : mnP p g n = -1 ∨ (0 ≤ mnP p g n ∧ mnP p g n ≤ B) := by
  unfold mnP
  have key : ∀ m : Nat, (m : Int) ≤ n ∨ m = 0 → mnN p g m = -1 ∨ (0 ≤ mnN p g m ∧ mnN p g m ≤ B) := by
    intro m
    induction m with
    | zero => intro _; exact Or.inl rfl
    | succ m ih =>
      intro hm
      have h1 := ih (Or.inl (by omega))
      show (if zb (p m) = 1 then (if mnN p g m < 0 then g m else min (mnN p g m) (g m)) else mnN p g m) = -1 ∨ (0 ≤ (if zb (p m) = 1 then (if mnN p g m < 0 then g m else min (mnN p g m) (g m)) else mnN p g m) ∧ (if zb (p m) = 1 then (if mnN p g m < 0 then g m else min (mnN p g m) (g m)) else mnN p g m) ≤ B)
      by_cases z : p m
      · have h2 := hB m (by omega) (by omega) z
        rw [if_pos (zb_t z)]
        split <;> omega
      · rw [if_neg (by rw [zb_f z]; decide)]; exact h1
  exact key n.toNat (by omega)
/-- the squares of a row's numbers -/
def dS (n t s : Int) : Int := sx16 (w32 (b64shr n s)) - sx16 (w32 (b64shr t s))
def sqX (n t : Int) : Int := 0 + dS n t 0 * dS n t 0 + dS n t 16 * dS n t 16 + dS n t 32 * dS n t 32 + dS n t 48 * dS n t 48
theorem dS_in (n t s : Int) : -65535 ≤ dS n t s ∧ dS n t s ≤ 65535 := by
  have h1 := sx16_in (w32 (b64shr n s)); have h2 := sx16_in (w32 (b64shr t s)); unfold dS; omega
theorem sq_in16 (d : Int) (h : -65535 ≤ d ∧ d ≤ 65535) : 0 ≤ d * d ∧ d * d ≤ 4294836225 := by
  refine ⟨?_, ?_⟩
  · rcases Int.le_total 0 d with z | z
    · exact Int.mul_nonneg z z
    · have := Int.mul_nonneg (a := -d) (b := -d) (by omega) (by omega); rw [Int.neg_mul_neg] at this; exact this
  · rcases Int.le_total 0 d with z | z
    · have := Int.mul_le_mul h.2 h.2 z (by omega); omega
    · have := Int.mul_le_mul (a := -d) (b := -d) (c := 65535) (d := 65535) (by omega) (by omega) (by omega) (by omega); rw [Int.neg_mul_neg] at this; omega
def sqP (n t s : Int) : Int := 0 + (if 0 < s then dS n t 0 * dS n t 0 else 0) + (if 16 < s then dS n t 16 * dS n t 16 else 0) + (if 32 < s then dS n t 32 * dS n t 32 else 0) + (if 48 < s then dS n t 48 * dS n t 48 else 0)
theorem sqX_in (n t : Int) : 0 ≤ sqX n t ∧ sqX n t ≤ 17179344900 := by
  have h1 := sq_in16 _ (dS_in n t 0); have h2 := sq_in16 _ (dS_in n t 16); have h3 := sq_in16 _ (dS_in n t 32); have h4 := sq_in16 _ (dS_in n t 48)
  unfold sqX; omega

theorem sp_X0_leastDistance {E : XE} {d : Nat} {σ : Sto} {x1 : Int} {x2 : Int} {y3 : Int} (hd : 1 ≤ d) (hL : Lay σ)  (p0 : 0 ≤ x1 ∧ x1 < 601) (p1 : OB σ 42 43) (p2 : inR x2) (p3 : inL y3) : CC E mX0_leastDistance d [aO 0, aI (x1), aI (x2), aL (y3)] σ (RL σ (mnP (fun j => σ.I 26 (σ.I 42 x1 + j) = x2) (fun j => sqX (σ.I 30 (σ.I 42 x1 + j)) y3) (σ.I 43 x1))) := by sorry
/-- how many tokens of a value are a term -/
noncomputable def ctX (σ : Sto) (t v : Int) : Int := cn (fun i => σ.I 36 (σ.I 31 v + i) = t) (σ.I 32 v)
noncomputable def coX (σ : Sto) (t o n : Int) : Int := smP (fun _ => True) (fun j => ctX σ t (σ.I 42 o + j)) n
theorem coX_0 {σ : Sto} {t o n : Int} (h : n ≤ 0) : coX σ t o n = 0 := smP_0 _ _ _ h
theorem coX_s {σ : Sto} {t o n m : Int} (h : 0 ≤ n) (hm : m = n + 1) : coX σ t o m = coX σ t o n + ctX σ t (σ.I 42 o + n) := smP_t _ _ n m h hm trivial
def TKV (σ : Sto) : Prop := ∀ v, 0 ≤ v → v < σ.I 0 20 → 0 ≤ σ.I 31 v ∧ 0 ≤ σ.I 32 v ∧ σ.I 32 v ≤ 250 ∧ σ.I 31 v + σ.I 32 v ≤ 24000

theorem sp_X0_count {E : XE} {d : Nat} {σ : Sto} {x1 : Int} {x2 : Int} (hd : 1 ≤ d) (hL : Lay σ)  (p0 : inR x1) (p1 : 0 ≤ x2 ∧ x2 < 601) (p2 : OB σ 42 43) (p3 : σ.I 42 x2 + σ.I 43 x2 ≤ σ.I 0 20 ∧ σ.I 0 20 ≤ 6000) (p4 : TKV σ) : CC E mX0_count d [aO 0, aI (x1), aI (x2)] σ (RI σ (coX σ x1 x2 (σ.I 43 x2))) := by sorry
theorem sp_X0_choose {E : XE} {d : Nat} {σ : Sto} {x1 : Int} {y2 : Int} (hd : 5 ≤ d) (hL : Lay σ)  (p0 : 0 ≤ σ.I 0 92 ∧ σ.I 0 92 ≤ 5) (p1 : 0 ≤ x1 ∧ x1 < 36500) (p2 : inL y2) (p3 : bd_0_20 σ 21 36500) (p4 : bd_0_36499 σ 207 6) : CC E mX0_choose d [aO 0, aI (x1), aL (y2)] σ (RV (fun τ => RD σ τ (fun c i => if rg c i 207 (ip (fun j => σ.I 208 j < y2 ∨ (y2 = σ.I 208 j ∧ tfX σ x1 (σ.I 207 j))) (σ.I 0 92) + 1) ((σ.I 0 92) + 1) ∨ rg c i 208 (ip (fun j => σ.I 208 j < y2 ∨ (y2 = σ.I 208 j ∧ tfX σ x1 (σ.I 207 j))) (σ.I 0 92) + 1) ((σ.I 0 92) + 1) then σ.I c (i - 1) else if at2 c i 207 (ip (fun j => σ.I 208 j < y2 ∨ (y2 = σ.I 208 j ∧ tfX σ x1 (σ.I 207 j))) (σ.I 0 92)) then x1 else if at2 c i 208 (ip (fun j => σ.I 208 j < y2 ∨ (y2 = σ.I 208 j ∧ tfX σ x1 (σ.I 207 j))) (σ.I 0 92)) then y2 else if at2 c i 0 92 then min (σ.I 0 92 + 1) 5 else σ.I c i))) := by sorry
theorem sp_X0_tellTerm {E : XE} {d : Nat} {σ : Sto} {x1 : Int} {x2 : Int} {x3 : Int} (hd : 5 ≤ d) (hL : Lay σ)  (p0 : 0 ≤ σ.I 0 88 ∧ σ.I 0 88 ≤ 10) (p1 : 0 ≤ x1 ∧ x1 < 36500) (p2 : inR x2) (p3 : inR x3) (p4 : bd_0_20 σ 21 36500) (p5 : bd_0_36499 σ 201 11) : CC E mX0_tellTerm d [aO 0, aI (x1), aI (x2), aI (x3)] σ (RV (fun τ => RD σ τ (fun c i => if rg c i 201 (ip (fun j => tbX σ x1 x2 x3 j) (σ.I 0 88) + 1) ((σ.I 0 88) + 1) ∨ rg c i 202 (ip (fun j => tbX σ x1 x2 x3 j) (σ.I 0 88) + 1) ((σ.I 0 88) + 1) ∨ rg c i 203 (ip (fun j => tbX σ x1 x2 x3 j) (σ.I 0 88) + 1) ((σ.I 0 88) + 1) then σ.I c (i - 1) else if at2 c i 201 (ip (fun j => tbX σ x1 x2 x3 j) (σ.I 0 88)) then x1 else if at2 c i 202 (ip (fun j => tbX σ x1 x2 x3 j) (σ.I 0 88)) then x2 else if at2 c i 203 (ip (fun j => tbX σ x1 x2 x3 j) (σ.I 0 88)) then x3 else if at2 c i 0 88 then min (σ.I 0 88 + 1) 10 else σ.I c i))) := by sorry
end
section
/-! contracts: printed by tools/mk.py out of s63_chain.py -/
set_option maxRecDepth 100000
set_option maxHeartbeats 4000000
/-- how many objects come anew among the places where Q holds, and the last of them -/
noncomputable def dcN (Q S : Int → Prop) (ob : Int → Int) : Nat → Int × Int
  | 0 => (0, -1)
  | n + 1 => if zb (Q n ∧ S (ob n) ∧ ob n ≠ (dcN Q S ob n).2) = 1 then ((dcN Q S ob n).1 + 1, ob n) else dcN Q S ob n
noncomputable def dc (Q S : Int → Prop) (ob : Int → Int) (n : Int) : Int × Int := dcN Q S ob n.toNat
section DC
variable {Q S : Int → Prop} {ob : Int → Int} {K x2 x3 x5 nx : Int}
theorem dc_0 {n : Int} (h : n ≤ 0) : dc Q S ob n = (0, -1) := by unfold dc; rw [show n.toNat = 0 by omega]; rfl
theorem dc_s {n m : Int} (h : 0 ≤ n) (hm : m = n + 1) : dc Q S ob m = if zb (Q n ∧ S (ob n) ∧ ob n ≠ (dc Q S ob n).2) = 1 then ((dc Q S ob n).1 + 1, ob n) else dc Q S ob n := by
  unfold dc
  rw [show m.toNat = n.toNat + 1 by omega]
  show (if zb (Q (n.toNat : Nat) ∧ S (ob (n.toNat : Nat)) ∧ ob (n.toNat : Nat) ≠ (dcN Q S ob n.toNat).2) = 1 then ((dcN Q S ob n.toNat).1 + 1, ob (n.toNat : Nat)) else dcN Q S ob n.toNat) = _
  rw [show ((n.toNat : Nat) : Int) = n by omega]
theorem dc_no {i m : Int} (h0 : 0 ≤ i) (h : i ≤ m) (hq : ∀ k, i ≤ k → k < m → ¬ Q k) : dc Q S ob m = dc Q S ob i := by
  obtain ⟨n, rfl⟩ : ∃ n : Nat, m = i + n := ⟨(m - i).toNat, by omega⟩
  clear h
  induction n with
  | zero => rw [show i + ((0 : Nat) : Int) = i by omega]
  | succ n ih => rw [dc_s (n := i + n) (by omega) (by omega), if_neg (by rw [zb_f (fun z => hq (i + n) (by omega) (by omega) z.1)]; decide)]; exact ih (fun k a b => hq k a (by omega))
theorem dc_b (n : Nat) : 0 ≤ (dcN Q S ob n).1 ∧ (dcN Q S ob n).1 ≤ n := by
  induction n with
  | zero => exact ⟨Int.le_refl _, Int.le_refl _⟩
  | succ n ih => unfold dcN; split <;> (show 0 ≤ _ ∧ _ ≤ _; omega)
theorem dc_in {n : Int} : 0 ≤ (dc Q S ob n).1 ∧ (0 ≤ n → (dc Q S ob n).1 ≤ n) := by
  have := dc_b (Q := Q) (S := S) (ob := ob) n.toNat; unfold dc; omega
theorem dc_l {n lo hi : Int} (hl : lo ≤ -1 ∧ -1 ≤ hi) (h : ∀ k, 0 ≤ k → k < n → Q k → lo ≤ ob k ∧ ob k ≤ hi) : lo ≤ (dc Q S ob n).2 ∧ (dc Q S ob n).2 ≤ hi := by
  unfold dc
  have key : ∀ m : Nat, (m : Int) ≤ n ∨ m = 0 → lo ≤ (dcN Q S ob m).2 ∧ (dcN Q S ob m).2 ≤ hi := by
    intro m
    induction m with
    | zero => intro _; exact hl
    | succ m ih =>
      intro hm
      have h1 := ih (Or.inl (by omega))
      unfold dcN
      by_cases z : Q m ∧ S (ob m) ∧ ob m ≠ (dcN Q S ob m).2
      · rw [if_pos (zb_t z)]; exact h m (by omega) (by omega) z.1
      · rw [if_neg (by rw [zb_f z]; decide)]; exact h1
  exact key n.toNat (by omega)
theorem fsF_bt (q : Int → Prop) (i n : Int) (h0 : 0 ≤ i) (h : i ≤ n) : (fsF q i n = -1 → ∀ k, i ≤ k → k < n → ¬ q k) ∧ (fsF q i n ≠ -1 → ∀ k, i ≤ k → k < fsF q i n → ¬ q k) := by
  obtain ⟨m, rfl⟩ : ∃ m : Nat, i = n - m := ⟨(n - i).toNat, by omega⟩
  clear h
  induction m with
  | zero => exact ⟨fun _ k a b => by omega, fun z => absurd (fsF_e q _ n (by omega)) z⟩
  | succ m ih =>
    have ih := ih (by omega)
    by_cases z : q (n - (m + 1 : Nat))
    · rw [fsF_t q _ n (by omega) z]
      exact ⟨fun y => by omega, fun _ k a b => by omega⟩
    · rw [fsF_f q _ (n - m) n (by omega) (by omega) z]
      refine ⟨fun y k a b => ?_, fun y k a b => ?_⟩
      · by_cases e : k = n - (m + 1 : Nat)
        · rw [e]; exact z
        · exact ih.1 y k (by omega) b
      · by_cases e : k = n - (m + 1 : Nat)
        · rw [e]; exact z
        · exact ih.2 y k (by omega) b
/-- what omega is not to see -/
def Hd (p : Prop) : Prop := p
theorem hdI {p : Prop} (h : p) : Hd p := h
theorem hdO {p : Prop} (h : Hd p) : p := h
def mz (x : Int) : Nat := if x < 0 then 0 else (30000 - x).toNat
theorem mz_lt {x y K : Int} (h0 : 0 ≤ x) (h : y = -1 ∨ (x < y ∧ y < K)) (hx : x < 30000) (hK : K ≤ 30000) : mz y < mz x := by
  have e1 : mz x = (30000 - x).toNat := if_neg (by omega)
  rw [e1]
  rcases h with rfl | h
  · have e2 : mz (-1) = 0 := if_pos (by decide)
    rw [e2]; omega
  · have e2 : mz y = (30000 - y).toNat := if_neg (by omega)
    rw [e2]; omega
def nz (x K : Int) : Int := if x = -1 then K else x
/-- a chain under way: at place x5 (-1: it has ended) -/
def CHI (Q S : Int → Prop) (ob : Int → Int) (K x2 x3 x5 : Int) : Prop := (x5 = -1 ∨ (0 ≤ x5 ∧ x5 < K ∧ Q x5)) ∧ dc Q S ob (nz x5 K) = (x2, x3)
theorem CHI_j {i : Int} (h0 : 0 ≤ i) (hi : i ≤ K) (hd : dc Q S ob i = (x2, x3)) (hn : nx = fsF Q i K) : CHI Q S ob K x2 x3 nx := by
  have hb := fsF_in Q i K
  have ht := fsF_bt Q i K h0 hi
  rw [← hn] at hb ht
  refine ⟨?_, ?_⟩
  · rcases hb with h | h
    · exact Or.inl h
    · exact Or.inr ⟨by omega, h.2⟩
  · unfold nz
    by_cases e : nx = -1
    · rw [if_pos e, dc_no h0 hi (ht.1 e)]; exact hd
    · rw [if_neg e, dc_no h0 (by rcases hb with h | h; (exact absurd h e); (exact h.1)) (ht.2 e)]; exact hd
theorem CHI_0 (hK : 0 ≤ K) (hn : nx = fsF Q 0 K) : CHI Q S ob K 0 (-1) nx := CHI_j (Int.le_refl _) hK (dc_0 (Int.le_refl _)) hn
theorem CHI_at (h : CHI Q S ob K x2 x3 x5) (h0 : 0 ≤ x5) : (x5 < K ∧ Q x5) ∧ dc Q S ob x5 = (x2, x3) := by
  obtain ⟨h1, h2⟩ := h
  unfold nz at h2
  rw [if_neg (by omega)] at h2
  exact ⟨h1.elim (fun z => by omega) (fun z => z.2), h2⟩
theorem CHI_no (h : CHI Q S ob K x2 x3 x5) (h0 : 0 ≤ x5) (hn : nx = fsF Q (x5 + 1) K) (hc : ob x5 = x3 ∨ ¬ S (ob x5)) : CHI Q S ob K x2 x3 nx := by
  obtain ⟨⟨h1, h2⟩, h3⟩ := CHI_at h h0
  refine CHI_j (by omega) (by omega) ?_ hn
  rw [dc_s (n := x5) h0 rfl, h3, if_neg (by rw [zb_f (fun z => hc.elim z.2.2 (fun y => y z.2.1))]; decide)]
theorem CHI_yes (h : CHI Q S ob K x2 x3 x5) (h0 : 0 ≤ x5) (hn : nx = fsF Q (x5 + 1) K) (h1 : ob x5 ≠ x3) (hs : S (ob x5)) : CHI Q S ob K (x2 + 1) (ob x5) nx := by
  obtain ⟨⟨h4, h2⟩, h3⟩ := CHI_at h h0
  refine CHI_j (by omega) (by omega) ?_ hn
  rw [dc_s (n := x5) h0 rfl, h3, if_pos (zb_t ⟨h2, hs, h1⟩)]
theorem CHI_e (h : CHI Q S ob K x2 x3 x5) (h0 : x5 < 0) : (dc Q S ob K).1 = x2 := by
  obtain ⟨h1, h2⟩ := h
  unfold nz at h2
  rw [if_pos (by omega)] at h2
  rw [h2]
theorem CHI_b (h : CHI Q S ob K x2 x3 x5) (hK : 0 ≤ K) (hb : ∀ k, 0 ≤ k → k < K → 0 ≤ ob k ∧ ob k < 600) : (0 ≤ x2 ∧ x2 ≤ K) ∧ (-1 ≤ x3 ∧ x3 < 600) ∧ (-1 ≤ x5 ∧ x5 < K) := by
  obtain ⟨h1, h2⟩ := h
  have hz : 0 ≤ nz x5 K ∧ nz x5 K ≤ K := by unfold nz; split <;> omega
  have a := dc_in (Q := Q) (S := S) (ob := ob) (n := nz x5 K)
  have b := dc_l (Q := Q) (S := S) (ob := ob) (n := nz x5 K) (lo := -1) (hi := 599) (by omega) (fun k p q _ => by have := hb k p (by omega); omega)
  rw [h2] at a b
  exact ⟨⟨a.1, Int.le_trans (a.2 hz.1) hz.2⟩, ⟨b.1, by have := b.2; omega⟩, by omega⟩
end DC
/-- the object of a token, of a value -/
def obT (σ : Sto) (k : Int) : Int := σ.I 27 (σ.I 38 k)
def sn (σ : Sto) (o : Nat) (k : Int) : Prop := σ.I (o + 1) k = 1
noncomputable def owX (σ : Sto) (o : Nat) (t K V : Int) : Int := if σ.I 16 (σ.I 20 t) = 1 then (dc (wkQ σ t) (sn σ o) (σ.I 27) V).1 else (dc (tkQ σ t) (sn σ o) (obT σ) K).1
def OWI (σ : Sto) (o : Nat) (t K V x2 x3 x4 x5 : Int) : Prop := (x4 = 0 ∧ ¬ isWt σ t ∧ CHI (tkQ σ t) (sn σ o) (obT σ) K x2 x3 x5) ∨ (x4 = 1 ∧ isWt σ t ∧ CHI (wkQ σ t) (sn σ o) (σ.I 27) V x2 x3 x5)
def OBV (σ : Sto) (K V : Int) : Prop := (0 ≤ K ∧ K ≤ 24000) ∧ (0 ≤ V ∧ V ≤ 6000) ∧ (∀ k, 0 ≤ k → k < K → 0 ≤ σ.I 38 k ∧ σ.I 38 k < V) ∧ ∀ v, 0 ≤ v → v < V → 0 ≤ σ.I 27 v ∧ σ.I 27 v < 600
theorem OWI_b {σ : Sto} {o : Nat} {t K V x2 x3 x4 x5 : Int} (h : OWI σ o t K V x2 x3 x4 x5) (hb : OBV σ K V) : (0 ≤ x2 ∧ x2 ≤ 24000) ∧ (-1 ≤ x3 ∧ x3 < 600) ∧ (-1 ≤ x5 ∧ x5 < 24000) ∧ (x4 = 0 ∨ x4 = 1) ∧ (x4 = 1 → x5 < V) ∧ (x4 = 0 → x5 < K) := by
  have hk1 := hb.1.2
  have hk2 := hb.2.1.2
  rcases h with ⟨a, b, c⟩ | ⟨a, b, c⟩
  · have := CHI_b c hb.1.1 (fun k p q => by have z := hb.2.2.1 k p q; exact hb.2.2.2 _ z.1 z.2)
    omega
  · have := CHI_b c hb.2.1.1 (fun k p q => hb.2.2.2 k p q)
    omega
theorem OWI_n {σ : Sto} {o : Nat} {t K V x2 x3 x4 x5 : Int} (h : OWI σ o t K V x2 x3 x4 x5) (hP : PT σ K) (hW : PW σ V) (h0 : 0 ≤ x5) (hc : (x4 = 0 → obT σ x5 = x3 ∨ ¬ sn σ o (obT σ x5)) ∧ (x4 ≠ 0 → σ.I 27 x5 = x3 ∨ ¬ sn σ o (σ.I 27 x5))) : (x4 = 0 → OWI σ o t K V x2 x3 x4 (σ.I 37 x5)) ∧ (x4 ≠ 0 → OWI σ o t K V x2 x3 x4 (σ.I 34 x5)) := by
  rcases h with ⟨a, b, c⟩ | ⟨a, b, c⟩
  · refine ⟨fun _ => Or.inl ⟨a, b, ?_⟩, fun z => absurd a z⟩
    obtain ⟨⟨q1, q2⟩, _⟩ := CHI_at c h0
    refine CHI_no c h0 ?_ (hc.1 a)
    rw [hP.2 x5 h0 q1, show σ.I 36 x5 = t from q2]
  · refine ⟨fun z => by omega, fun _ => Or.inr ⟨a, b, ?_⟩⟩
    obtain ⟨⟨q1, q2⟩, _⟩ := CHI_at c h0
    refine CHI_no c h0 ?_ (hc.2 (by omega))
    rw [hW.2 x5 h0 q1 q2.1, q2.2]
theorem OWI_y {σ : Sto} {o : Nat} {t K V x2 x3 x4 x5 : Int} (h : OWI σ o t K V x2 x3 x4 x5) (hP : PT σ K) (hW : PW σ V) (h0 : 0 ≤ x5) : (x4 = 0 → obT σ x5 ≠ x3 → sn σ o (obT σ x5) → OWI σ o t K V (x2 + 1) (obT σ x5) x4 (σ.I 37 x5)) ∧ (x4 ≠ 0 → σ.I 27 x5 ≠ x3 → sn σ o (σ.I 27 x5) → OWI σ o t K V (x2 + 1) (σ.I 27 x5) x4 (σ.I 34 x5)) := by
  rcases h with ⟨a, b, c⟩ | ⟨a, b, c⟩
  · refine ⟨fun _ g1 g2 => Or.inl ⟨a, b, ?_⟩, fun z => absurd a z⟩
    obtain ⟨⟨q1, q2⟩, _⟩ := CHI_at c h0
    refine CHI_yes c h0 ?_ g1 g2
    rw [hP.2 x5 h0 q1, show σ.I 36 x5 = t from q2]
  · refine ⟨fun z => by omega, fun _ g1 g2 => Or.inr ⟨a, b, ?_⟩⟩
    obtain ⟨⟨q1, q2⟩, _⟩ := CHI_at c h0
    refine CHI_yes c h0 ?_ g1 g2
    rw [hW.2 x5 h0 q1 q2.1, q2.2]
theorem OWI_nx {σ : Sto} {K V x5 : Int} (hP : PT σ K) (hW : PW σ V) (h0 : 0 ≤ x5) : (x5 < K → σ.I 37 x5 = -1 ∨ (x5 < σ.I 37 x5 ∧ σ.I 37 x5 < K)) ∧ (x5 < V → σ.I 16 (σ.I 26 x5) = 1 → σ.I 34 x5 = -1 ∨ (x5 < σ.I 34 x5 ∧ σ.I 34 x5 < V)) := by
  refine ⟨fun h => ?_, fun h g => ?_⟩
  · rw [hP.2 x5 h0 h]
    have := fsF_in (tkQ σ (σ.I 36 x5)) (x5 + 1) K; omega
  · rw [hW.2 x5 h0 h g]
    have := fsF_in (wkQ σ (σ.I 33 x5)) (x5 + 1) V; omega
theorem OWI_k {σ : Sto} {o : Nat} {t K V x2 x3 x4 x5 : Int} (h : OWI σ o t K V x2 x3 x4 x5) (h0 : 0 ≤ x5) (h1 : x4 = 1) : σ.I 16 (σ.I 26 x5) = 1 := by
  rcases h with ⟨a, _⟩ | ⟨a, b, c⟩
  · omega
  · exact (CHI_at c h0).1.2.1

theorem sp_X6_objectsWith {E : XE} {d : Nat} {σ : Sto} {K : Int} {V : Int} {o0 : Nat} {x1 : Int} (hd : 1 ≤ d) (hL : Lay σ) (ho0 : At6 σ o0) (p0 : 0 ≤ x1 ∧ x1 < σ.I 18 7 ∧ σ.I 18 7 < 36500) (p1 : 0 ≤ σ.I 20 x1 ∧ σ.I 20 x1 < 12) (p2 : PT σ K) (p3 : PW σ V) (p4 : OBV σ K V) : CC E mX6_objectsWith d [aO o0, aI (x1)] σ (RI σ (owX σ o0 x1 K V)) := by sorry
end
section
/-! contracts: printed by tools/mk.py out of s64_keyM.py -/
set_option maxRecDepth 100000
set_option maxHeartbeats 4000000
/-- the key by which an object is sorted: whether it has one, and which -/
noncomputable def kyN (p : Int → Prop) (g : Int → Int) (dn k0 : Int) : Nat → Int × Int
  | 0 => (0, k0)
  | n + 1 => if zb (p n) = 1 then (1, if (kyN p g dn k0 n).1 = 0 ∨ (if dn = 1 then (kyN p g dn k0 n).2 < g n else g n < (kyN p g dn k0 n).2) then g n else (kyN p g dn k0 n).2) else kyN p g dn k0 n
noncomputable def ky (p : Int → Prop) (g : Int → Int) (dn k0 n : Int) : Int × Int := kyN p g dn k0 n.toNat
theorem ky_0 (p : Int → Prop) (g : Int → Int) (dn k0 n : Int) (h : n ≤ 0) : ky p g dn k0 n = (0, k0) := by unfold ky; rw [show n.toNat = 0 by omega]; rfl
theorem ky_e (p : Int → Prop) (g : Int → Int) (dn k0 n m : Int) (h : 0 ≤ n) (hm : m = n + 1) : ky p g dn k0 m = if zb (p n) = 1 then (1, if (ky p g dn k0 n).1 = 0 ∨ (if dn = 1 then (ky p g dn k0 n).2 < g n else g n < (ky p g dn k0 n).2) then g n else (ky p g dn k0 n).2) else ky p g dn k0 n := by
  unfold ky
  rw [show m.toNat = n.toNat + 1 by omega]
  show (if zb (p (n.toNat : Nat)) = 1 then (1, if (kyN p g dn k0 n.toNat).1 = 0 ∨ (if dn = 1 then (kyN p g dn k0 n.toNat).2 < g (n.toNat : Nat) else g (n.toNat : Nat) < (kyN p g dn k0 n.toNat).2) then g (n.toNat : Nat) else (kyN p g dn k0 n.toNat).2) else kyN p g dn k0 n.toNat) = _
  rw [show ((n.toNat : Nat) : Int) = n by omega]
theorem ky_f (p : Int → Prop) (g : Int → Int) (dn k0 n m : Int) (h : 0 ≤ n) (hm : m = n + 1) (hp : ¬ p n) : ky p g dn k0 m = ky p g dn k0 n := by rw [ky_e p g dn k0 n m h hm, if_neg (by rw [zb_f hp]; decide)]
theorem ky_t1 (p : Int → Prop) (g : Int → Int) (dn k0 n m : Int) (h : 0 ≤ n) (hm : m = n + 1) (hp : p n) : (ky p g dn k0 m).1 = 1 := by rw [ky_e p g dn k0 n m h hm, if_pos (zb_t hp)]
theorem ky_t2 (p : Int → Prop) (g : Int → Int) (dn k0 n m : Int) (h : 0 ≤ n) (hm : m = n + 1) (hp : p n) : (ky p g dn k0 m).2 = if (ky p g dn k0 n).1 = 0 ∨ (if dn = 1 then (ky p g dn k0 n).2 < g n else g n < (ky p g dn k0 n).2) then g n else (ky p g dn k0 n).2 := by rw [ky_e p g dn k0 n m h hm, if_pos (zb_t hp)]
theorem ky_in (p : Int → Prop) (g : Int → Int) (dn k0 n : Int) : (ky p g dn k0 n).1 = 0 ∨ (ky p g dn k0 n).1 = 1 := by
  unfold ky
  induction n.toNat with
  | zero => exact Or.inl rfl
  | succ m ih =>
    unfold kyN
    split
    · exact Or.inr rfl
    · exact ih
def kpM (σ : Sto) (f o j : Int) : Prop := mV σ f (σ.I 595 o + j)
noncomputable def kyM (σ : Sto) (o n : Int) : Int × Int := ky (kpM σ (σ.I 555 131) o) (fun j => σ.I 583 (σ.I 595 o + j)) (σ.I 555 132) (σ.I 651 o) n

theorem sp_X9_takeKey {E : XE} {d : Nat} {σ : Sto} {x1 : Int} (hd : 2 ≤ d) (hL : Lay σ)  (p0 : 0 ≤ x1 ∧ x1 < 601) (p1 : OB σ 595 596) (p2 : σ.I 555 131 < 12) : CC E mX9_takeKey d [aO 555, aI (x1)] σ (RV (fun τ => RD σ τ (fun c i => if at2 c i 652 x1 then (kyM σ x1 (if 0 ≤ σ.I 555 131 then σ.I 596 x1 else 0)).1 else if at2 c i 651 x1 then (kyM σ x1 (if 0 ≤ σ.I 555 131 then σ.I 596 x1 else 0)).2 else σ.I c i))) := by sorry
/-- how many tokens are q, or (at) at how many places; the last place -/
noncomputable def cpN (q : Int → Prop) (po : Int → Int) (at_ : Int) : Nat → Int × Int
  | 0 => (0, -1)
  | n + 1 => if zb (q n) = 1 then ((cpN q po at_ n).1 + (if at_ = 0 ∨ po n ≠ (cpN q po at_ n).2 then 1 else 0), po n) else cpN q po at_ n
noncomputable def cp2 (q : Int → Prop) (po : Int → Int) (at_ n : Int) : Int × Int := cpN q po at_ n.toNat
theorem cp2_0 (q : Int → Prop) (po : Int → Int) (at_ n : Int) (h : n ≤ 0) : cp2 q po at_ n = (0, -1) := by unfold cp2; rw [show n.toNat = 0 by omega]; rfl
theorem cp2_e (q : Int → Prop) (po : Int → Int) (at_ n m : Int) (h : 0 ≤ n) (hm : m = n + 1) : cp2 q po at_ m = if zb (q n) = 1 then ((cp2 q po at_ n).1 + (if at_ = 0 ∨ po n ≠ (cp2 q po at_ n).2 then 1 else 0), po n) else cp2 q po at_ n := by
  unfold cp2
  rw [show m.toNat = n.toNat + 1 by omega]
  show (if zb (q (n.toNat : Nat)) = 1 then ((cpN q po at_ n.toNat).1 + (if at_ = 0 ∨ po (n.toNat : Nat) ≠ (cpN q po at_ n.toNat).2 then 1 else 0), po (n.toNat : Nat)) else cpN q po at_ n.toNat) = _
  rw [show ((n.toNat : Nat) : Int) = n by omega]
theorem cp2_b (q : Int → Prop) (po : Int → Int) (at_ : Int) (n : Nat) : 0 ≤ (cpN q po at_ n).1 ∧ (cpN q po at_ n).1 ≤ n := by
  induction n with
  | zero => exact ⟨Int.le_refl _, Int.le_refl _⟩
  | succ n ih =>
    unfold cpN
    split
    · show 0 ≤ (cpN q po at_ n).1 + _ ∧ (cpN q po at_ n).1 + _ ≤ _
      split <;> omega
    · omega
theorem cp2_in (q : Int → Prop) (po : Int → Int) (at_ n : Int) : 0 ≤ (cp2 q po at_ n).1 ∧ (0 ≤ n → (cp2 q po at_ n).1 ≤ n) := by
  have := cp2_b q po at_ n.toNat; unfold cp2; omega
def tqM (σ : Sto) (v t i : Int) : Prop := odM σ (σ.I 582 v + i) t = 0
noncomputable def cvM (σ : Sto) (v t at_ : Int) : Int := (cp2 (tqM σ v t) (fun i => σ.I 590 (σ.I 582 v + i)) at_ (tcM σ v)).1
noncomputable def ciM (σ : Sto) (o f t at_ n : Int) : Int := smP (fun j => mV σ f (σ.I 595 o + j)) (fun j => cvM σ (σ.I 595 o + j) t at_) n
theorem ciM_0 {σ : Sto} {o f t a n : Int} (h : n ≤ 0) : ciM σ o f t a n = 0 := smP_0 _ _ _ h
theorem ciM_t {σ : Sto} {o f t a n m : Int} (h : 0 ≤ n) (hm : m = n + 1) (hp : mV σ f (σ.I 595 o + n)) : ciM σ o f t a m = ciM σ o f t a n + cvM σ (σ.I 595 o + n) t a := smP_t _ _ n m h hm hp
theorem ciM_f {σ : Sto} {o f t a n m : Int} (h : 0 ≤ n) (hm : m = n + 1) (hp : ¬ mV σ f (σ.I 595 o + n)) : ciM σ o f t a m = ciM σ o f t a n := smP_f _ _ n m h hm hp

theorem sp_X9_countIn {E : XE} {d : Nat} {σ : Sto} {x1 : Int} {x2 : Int} {x3 : Int} {x4 : Int} (hd : 3 ≤ d) (hL : Lay σ)  (p0 : 0 ≤ x1 ∧ x1 < 601) (p1 : 0 ≤ x2 ∧ x2 < 12) (p2 : 0 ≤ x3 ∧ x3 < 24000) (p3 : 0 ≤ x4 ∧ x4 ≤ 1) (p4 : OB σ 595 596) (p5 : VT σ (σ.I 555 30)) (p6 : σ.I 555 30 ≤ 6000) (p7 : σ.I 595 x1 + σ.I 596 x1 ≤ σ.I 555 30) (p8 : bd_0_20 σ 587 24000) : CC E mX9_countIn d [aO 555, aI (x1), aI (x2), aI (x3), aI (x4)] σ (RI σ (ciM σ x1 x2 x3 x4 (σ.I 596 x1))) := by sorry
end
section
/-! contracts: printed by tools/mk.py out of s65_sort.py -/
set_option maxRecDepth 100000
set_option maxHeartbeats 4000000
/-- rows in another order -/
def PRM (n : Int) (p : Int → Int) : Prop := (∀ i, 0 ≤ i → i < n → 0 ≤ p i ∧ p i < n) ∧ ∀ i j, 0 ≤ i → i < n → 0 ≤ j → j < n → p i = p j → i = j
def swp (p : Int → Int) (a b : Int) : Int → Int := fun i => if i = a then p b else if i = b then p a else p i
theorem PRM_id {n : Int} : PRM n (fun i => i) := ⟨fun i a b => ⟨a, b⟩, fun i j _ _ _ _ h => h⟩
theorem PRM_sw {n : Int} {p : Int → Int} {a b : Int} (h : PRM n p) (ha : 0 ≤ a ∧ a < n) (hb : 0 ≤ b ∧ b < n) : PRM n (swp p a b) := by
  refine ⟨fun i h0 h1 => ?_, fun i j h0 h1 h2 h3 e => ?_⟩
  · unfold swp
    split
    · exact h.1 b hb.1 hb.2
    · split
      · exact h.1 a ha.1 ha.2
      · exact h.1 i h0 h1
  · have i1 := h.2 i j h0 h1 h2 h3
    have i2 := h.2 b j hb.1 hb.2 h2 h3
    have i3 := h.2 a j ha.1 ha.2 h2 h3
    have i4 := h.2 i b h0 h1 hb.1 hb.2
    have i5 := h.2 i a h0 h1 ha.1 ha.2
    have i6 := h.2 a b ha.1 ha.2 hb.1 hb.2
    have i7 := h.2 b a hb.1 hb.2 ha.1 ha.2
    unfold swp at e
    grind
/-- every place of the rows is one's origin -/
theorem PRM_on {n : Nat} : ∀ {p : Int → Int}, PRM (n : Int) p → ∀ k, 0 ≤ k → k < (n : Int) → ∃ i, 0 ≤ i ∧ i < (n : Int) ∧ p i = k := by
  induction n with
  | zero => intro p h k h0 h1; omega
  | succ n ih =>
    intro p h k h0 h1
    by_cases e : p (n : Int) = k
    · exact ⟨n, by omega, by omega, e⟩
    · -- the last one's origin is put in place of the number n
      have hl := h.1 n (by omega) (by omega)
      have hq : PRM (n : Int) (fun i => if p i = n then p n else p i) := by
        refine ⟨fun i a b => ?_, fun i j a b c d q => ?_⟩
        · have z := h.1 i a (by omega)
          have y := h.2 i n a (by omega) (by omega) (by omega)
          show 0 ≤ (if p i = n then p n else p i) ∧ (if p i = n then p n else p i) < n
          split <;> omega
        · have z1 := h.2 i j a (by omega) c (by omega)
          have z2 := h.2 i n a (by omega) (by omega) (by omega)
          have z3 := h.2 j n c (by omega) (by omega) (by omega)
          have q : (if p i = n then p n else p i) = if p j = n then p n else p j := q
          grind
      by_cases ek : k = n
      · -- n is some p i
        have hn : p (n : Int) < n := by omega
        obtain ⟨i, a, b, c⟩ := ih hq (p n) (by omega) hn
        have c : (if p i = n then p n else p i) = p n := c
        have z := h.2 i n a (by omega) (by omega) (by omega)
        exact ⟨i, a, by omega, by rw [ek]; grind⟩
      · obtain ⟨i, a, b, c⟩ := ih hq k h0 (by omega)
        have c : (if p i = n then p n else p i) = k := c
        exact ⟨i, a, by omega, by grind⟩
/-- an order with draws -/
def SWO (D : Int → Prop) (L : Int → Int → Prop) : Prop := (∀ a b, D a → D b → L a b → ¬ L b a) ∧ ∀ a b c, D a → D b → D c → ¬ L a b → ¬ L b c → ¬ L a c
/-- sorted below m but for the one at j, which may belong before -/
def SRJ (L : Int → Int → Prop) (p : Int → Int) (m j : Int) : Prop := ∀ a b, 0 ≤ a → a < b → b < m → b ≠ j → ¬ L (p b) (p a)
section SRT
variable {L : Int → Int → Prop} {p : Int → Int} {n m j : Int}
theorem SRJ_0 (h : m ≤ 1) : SRJ L p m j := fun a b h0 h1 h2 => by omega
theorem SRJ_in (h : SRJ L p m (-1)) (hm : 0 ≤ m) : SRJ L p (m + 1) m := fun a b h0 h1 h2 h3 => h a b h0 h1 (by omega) (by omega)
theorem SRJ_sw (h : SRJ L p m j) (hp : PRM n p) (hL : SWO (fun x => 0 ≤ x ∧ x < n) L) (hj : 1 ≤ j ∧ j < m) (hm : m ≤ n) (ht : L (p j) (p (j - 1))) : SRJ L (swp p j (j - 1)) m (j - 1) := by
  intro a b h0 h1 h2 h3
  have e1 := h a b h0 h1 h2
  have e2 := h (j - 1) b (by omega)
  have e3 := h a (j - 1) h0
  have e4 := h j b (by omega)
  have e5 := hL.1 (p j) (p (j - 1)) (hp.1 j (by omega) (by omega)) (hp.1 (j - 1) (by omega) (by omega)) ht
  unfold swp
  by_cases b1 : b = j
  · rw [if_pos b1]
    by_cases a1 : a = j - 1
    · rw [if_neg (by omega), if_pos a1]; exact e5
    · rw [if_neg (by omega), if_neg a1]; exact e3 (by omega) (by omega) (by omega)
  · rw [if_neg b1, if_neg h3]
    by_cases a1 : a = j
    · rw [if_pos a1]; exact e2 (by omega) h2 b1
    · rw [if_neg a1]
      by_cases a2 : a = j - 1
      · rw [if_pos a2]; exact e4 (by omega) h2 b1
      · rw [if_neg a2]; exact e1 b1
theorem SRJ_z (h : SRJ L p m j) (hj : j ≤ 0) : SRJ L p m (-1) := fun a b h0 h1 h2 _ => h a b h0 h1 h2 (by omega)
theorem SRJ_x (h : SRJ L p m j) (hp : PRM n p) (hL : SWO (fun x => 0 ≤ x ∧ x < n) L) (hj : 1 ≤ j ∧ j < m) (hm : m ≤ n) (ht : ¬ L (p j) (p (j - 1))) : SRJ L p m (-1) := by
  intro a b h0 h1 h2 _
  by_cases b1 : b = j
  · rw [b1]
    by_cases a1 : a = j - 1
    · rw [a1]; exact ht
    · exact hL.2 (p j) (p (j - 1)) (p a) (hp.1 j (by omega) (by omega)) (hp.1 (j - 1) (by omega) (by omega)) (hp.1 a h0 (by omega)) ht (h a (j - 1) h0 (by omega) (by omega) (by omega))
  · exact h a b h0 h1 h2 b1
end SRT
theorem td2 {x : Int} (h : 0 ≤ x) : td x 2 = x / 2 := Int.tdiv_eq_ediv_of_nonneg h
/-- a sorting under way -/
def SHW (n : Int) (L : Int → Int → Prop) (R : (Int → Int) → Prop) (c : Prop) (m j : Int) : Prop := ∃ p, PRM n p ∧ R p ∧ (c → SRJ L p m j)
/-- byte rows: an order with draws -/
theorem od_neg (A : Int → Int) (i n : Int) (B : Int → Int) (j m : Int) : ∀ (f : Nat) (k : Int), k + f = 1000 → n ≤ 20 → m ≤ 20 → 0 ≤ k → od B j m A i n k = - od A i n B j m k := by
  intro f
  induction f with
  | zero => intro k hk hn hm h0; rw [od_e _ _ _ _ _ _ _ (by omega), od_e _ _ _ _ _ _ _ (by omega)]; omega
  | succ f ih =>
    intro k hk hn hm h0
    by_cases e : n ≤ k ∨ m ≤ k
    · rw [od_e _ _ _ _ _ _ _ (by omega), od_e _ _ _ _ _ _ _ e]; omega
    · by_cases z : A (i + k) % 256 = B (j + k) % 256
      · rw [od_s B j m A i n k (k + 1) (by omega) (by omega) rfl z.symm, od_s A i n B j m k (k + 1) (by omega) (by omega) rfl z]
        exact ih (k + 1) (by omega) hn hm (by omega)
      · rw [od_d B j m A i n k (by omega) (by omega) (fun y => z y.symm), od_d A i n B j m k (by omega) (by omega) z]; omega
theorem od_tr (A : Int → Int) (i n : Int) (B : Int → Int) (j m : Int) (C : Int → Int) (l q : Int) : ∀ (f : Nat) (k : Int), k + f = 1000 → n ≤ 20 → m ≤ 20 → q ≤ 20 → 0 ≤ k → 0 ≤ od A i n B j m k → 0 ≤ od B j m C l q k → 0 ≤ od A i n C l q k := by
  intro f
  induction f with
  | zero => intro k hk hn hm hq h0 h1 h2; rw [od_e _ _ _ _ _ _ _ (by omega)] at h1 h2 ⊢; omega
  | succ f ih =>
    intro k hk hn hm hq h0 h1 h2
    by_cases e1 : n ≤ k ∨ m ≤ k
    · rw [od_e _ _ _ _ _ _ _ e1] at h1
      have e2 : m ≤ k := by omega
      rw [od_e _ _ _ _ _ _ _ (Or.inl e2)] at h2
      rw [od_e _ _ _ _ _ _ _ (by omega)]; omega
    · by_cases e2 : q ≤ k
      · rw [od_e _ _ _ _ _ _ _ (Or.inr e2)]; omega
      · by_cases z : A (i + k) % 256 = B (j + k) % 256
        · rw [od_s A i n B j m k (k + 1) (by omega) (by omega) rfl z] at h1
          by_cases y : B (j + k) % 256 = C (l + k) % 256
          · rw [od_s B j m C l q k (k + 1) (by omega) (by omega) rfl y] at h2
            rw [od_s A i n C l q k (k + 1) (by omega) (by omega) rfl (z.trans y)]
            exact ih (k + 1) (by omega) hn hm hq (by omega) h1 h2
          · rw [od_d B j m C l q k (by omega) (by omega) y] at h2
            rw [od_d A i n C l q k (by omega) (by omega) (fun x => y (z.symm.trans x))]; omega
        · rw [od_d A i n B j m k (by omega) (by omega) z] at h1
          by_cases y : B (j + k) % 256 = C (l + k) % 256
          · rw [od_d A i n C l q k (by omega) (by omega) (fun x => z (x.trans y.symm))]; omega
          · rw [od_d B j m C l q k (by omega) (by omega) y] at h2
            rw [od_d A i n C l q k (by omega) (by omega) (by omega)]; omega

def shX (σ : Sto) (f : Int) : Prop := 0 ≤ f ∧ ¬ bt32 (σ.I 102 1) f
noncomputable def kXj (σ : Sto) (f dn i n : Int) : Int × Int := ky (fun j => σ.I 26 (σ.I 42 (σ.I 189 i) + j) = f) (fun j => σ.I 30 (σ.I 42 (σ.I 189 i) + j)) dn 0 n
noncomputable def kX (σ : Sto) (f dn i : Int) : Int × Int := kXj σ f dn i (if zb (shX σ f) = 1 then σ.I 43 (σ.I 189 i) else 0)
/-- hit i comes before hit j -/
def LX2 (σ : Sto) (f dn gr i j : Int) : Prop :=
  ((kX σ f dn i).1 ≠ (kX σ f dn j).1 ∧ (kX σ f dn i).1 = 1) ∨
  ((kX σ f dn i).1 = (kX σ f dn j).1 ∧
    (((kX σ f dn i).2 ≠ (kX σ f dn j).2 ∧ (dn = 1 ∧ (kX σ f dn j).2 < (kX σ f dn i).2 ∨ dn = 0 ∧ (kX σ f dn i).2 < (kX σ f dn j).2)) ∨
     ((kX σ f dn i).2 = (kX σ f dn j).2 ∧
       ((σ.I 190 i ≠ σ.I 190 j ∧ (gr = 1 ∧ σ.I 190 j < σ.I 190 i ∨ gr = 0 ∧ σ.I 190 i < σ.I 190 j)) ∨
        (σ.I 190 i = σ.I 190 j ∧ σ.I 189 i < σ.I 189 j)))))
theorem LX2_swo {σ : Sto} {f dn gr n : Int} (hd : dn = 0 ∨ dn = 1) (hg : gr = 0 ∨ gr = 1) : SWO (fun x => 0 ≤ x ∧ x < n) (LX2 σ f dn gr) := by
  refine ⟨fun a b _ _ h => ?_, fun a b c _ _ _ h1 h2 => ?_⟩
  · have ka := ky_in (fun j => σ.I 26 (σ.I 42 (σ.I 189 a) + j) = f) (fun j => σ.I 30 (σ.I 42 (σ.I 189 a) + j)) dn 0 (if zb (shX σ f) = 1 then σ.I 43 (σ.I 189 a) else 0)
    unfold LX2 at h ⊢
    generalize (kX σ f dn a).1 = a1 at *
    generalize (kX σ f dn b).1 = b1 at *
    generalize (kX σ f dn a).2 = a2 at *
    generalize (kX σ f dn b).2 = b2 at *
    omega
  · have ka : (kX σ f dn a).1 = 0 ∨ (kX σ f dn a).1 = 1 := ky_in _ _ _ _ _
    have kb : (kX σ f dn b).1 = 0 ∨ (kX σ f dn b).1 = 1 := ky_in _ _ _ _ _
    have kc : (kX σ f dn c).1 = 0 ∨ (kX σ f dn c).1 = 1 := ky_in _ _ _ _ _
    unfold LX2 at h1 h2 ⊢
    generalize (kX σ f dn a).1 = a1 at *
    generalize (kX σ f dn b).1 = b1 at *
    generalize (kX σ f dn c).1 = c1 at *
    generalize (kX σ f dn a).2 = a2 at *
    generalize (kX σ f dn b).2 = b2 at *
    generalize (kX σ f dn c).2 = c2 at *
    rcases hd with rfl | rfl <;> rcases hg with rfl | rfl <;> omega
/-- the rows of hits -/
def RWH (σ τ : Sto) (f dn n : Int) (p : Int → Int) : Prop := ∀ i, 0 ≤ i → i < n → τ.I 189 i = σ.I 189 (p i) ∧ τ.I 190 i = σ.I 190 (p i) ∧ τ.I 191 i = (kX σ f dn (p i)).2 ∧ τ.I 192 i = (kX σ f dn (p i)).1
theorem RWH_bf {σ τ : Sto} {f dn gr n i j : Int} {p : Int → Int} (h : RWH σ τ f dn n p) (hi : 0 ≤ i ∧ i < n) (hj : 0 ≤ j ∧ j < n) : bfX τ dn gr i j ↔ LX2 σ f dn gr (p i) (p j) := by
  obtain ⟨a1, a2, a3, a4⟩ := h i hi.1 hi.2
  obtain ⟨b1, b2, b3, b4⟩ := h j hj.1 hj.2
  unfold bfX LX2
  rw [a1, a2, a3, a4, b1, b2, b3, b4]
theorem RWH_sw {σ τ υ : Sto} {f dn n a b : Int} {p : Int → Int} (h : RWH σ τ f dn n p) (ha : 0 ≤ a ∧ a < n) (hb : 0 ≤ b ∧ b < n) (e : υ.I = fun c i => if at2 c i 189 a then τ.I 189 b else if at2 c i 189 b then τ.I 189 a else if at2 c i 190 a then τ.I 190 b else if at2 c i 190 b then τ.I 190 a else if at2 c i 191 a then τ.I 191 b else if at2 c i 191 b then τ.I 191 a else if at2 c i 192 a then τ.I 192 b else if at2 c i 192 b then τ.I 192 a else τ.I c i) : RWH σ υ f dn n (swp p a b) := by
  intro i h0 h1
  have ea := h a ha.1 ha.2
  have eb := h b hb.1 hb.2
  have ei := h i h0 h1
  unfold swp
  rw [e]
  by_cases z1 : i = a
  · subst z1; rw [if_pos rfl]; grind
  · by_cases z2 : i = b
    · subst z2; rw [if_neg z1, if_pos rfl]; grind
    · rw [if_neg z1, if_neg z2]; grind
def wsSo (c : Nat) (i : Int) : Prop := 189 ≤ c ∧ c ≤ 192 ∧ i = i
abbrev KSo (σ τ : Sto) : Prop := Ch wsSo σ τ
theorem KSo_rf {σ : Sto} : KSo σ σ := Ch.rf
theorem KSo_w {σ τ : Sto} {a : Nat} {i v : Int} (e : τ = σ.wI a i v) (h : wsSo a i) : KSo σ τ := by rw [e]; exact Ch.wI Ch.rf h
theorem KSo_rd {σ τ : Sto} {F : Nat → Int → Int} (r : τ.R = σ.R) (s : τ.sh = σ.sh) (n : τ.n = σ.n) (e : τ.I = F) (h : ∀ c i, ¬ wsSo c i → F c i = σ.I c i) : KSo σ τ := ⟨⟨r, s, n⟩, fun c i q => by rw [e]; exact h c i q⟩
theorem kso {σ τ : Sto} (h : KSo σ τ) {c : Nat} (q : c < 189 ∨ 192 < c) : τ.I c = σ.I c := funext fun i => Ch.at h (by unfold wsSo; omega)
/-- keys of the first n hits are told -/
def RWK (σ τ : Sto) (f dn n : Int) : Prop := τ.I 189 = σ.I 189 ∧ τ.I 190 = σ.I 190 ∧ ∀ i, 0 ≤ i → i < n → τ.I 191 i = (kX σ f dn i).2 ∧ τ.I 192 i = (kX σ f dn i).1
theorem RWK_w {σ τ υ : Sto} {f dn n : Int} (h : RWK σ τ f dn n) (e : ∀ c i, c ≠ 191 ∧ c ≠ 192 ∨ i < n → υ.I c i = τ.I c i) : RWK σ υ f dn n := ⟨(funext fun i => e _ i (Or.inl (by decide))).trans h.1, (funext fun i => e _ i (Or.inl (by decide))).trans h.2.1, fun i a b => by rw [e _ i (Or.inr b), e _ i (Or.inr b)]; exact h.2.2 i a b⟩
theorem RWK_s {σ τ : Sto} {f dn n : Int} (h : RWK σ τ f dn n) (h1 : τ.I 191 n = (kX σ f dn n).2) (h2 : τ.I 192 n = (kX σ f dn n).1) : RWK σ τ f dn (n + 1) := ⟨h.1, h.2.1, fun i a b => by
  by_cases z : i = n
  · rw [z]; exact ⟨h1, h2⟩
  · exact h.2.2 i a (by omega)⟩
theorem RWK_H {σ τ : Sto} {f dn n : Int} (h : RWK σ τ f dn n) : RWH σ τ f dn n (fun i => i) := fun i a b => ⟨congrFun h.1 i, congrFun h.2.1 i, (h.2.2 i a b).1, (h.2.2 i a b).2⟩

theorem sp_X0_sortHits {E : XE} {d : Nat} {σ : Sto} {x1 : Int} {x2 : Int} {x3 : Int} (hd : 5 ≤ d) (hL : Lay σ)  (p0 : -1 ≤ x1 ∧ x1 < 12) (p1 : 0 ≤ x2 ∧ x2 ≤ 1) (p2 : 0 ≤ x3 ∧ x3 ≤ 1) (p3 : 0 ≤ σ.I 0 70 ∧ σ.I 0 70 ≤ 600) (p4 : OB σ 42 43) (p5 : ∀ i, 0 ≤ i → i < σ.I 0 70 → 0 ≤ σ.I 189 i ∧ σ.I 189 i < 600) : CC E mX0_sortHits d [aO 0, aI (x1), aI (x2), aI (x3)] σ (RV (fun τ => (∃ p, PRM (σ.I 0 70) p ∧ RWH σ τ x1 x2 (σ.I 0 70) p ∧ ∀ a b, 0 ≤ a → a < b → b < (σ.I 0 70) → ¬ LX2 σ x1 x2 x3 (p b) (p a)) ∧ (KSo σ τ))) := by sorry
end
section
/-! contracts: printed by tools/mk.py out of s66_sortG.py -/
set_option maxRecDepth 100000
set_option maxHeartbeats 4000000
def GRB (σ : Sto) (n : Int) : Prop := σ.I 0 80 ≠ 0 → ∀ i, 0 ≤ i → i < n → 0 ≤ σ.I 196 i ∧ σ.I 196 i < 36500
theorem gbX_swo {σ : Sto} {n : Int} (hb : GRB σ n) (hz : bd_0_20 σ 21 36500) : SWO (fun x => 0 ≤ x ∧ x < n) (gbX σ) := by
  have hs : ∀ i, σ.I 0 80 ≠ 0 → 0 ≤ i ∧ i < n → σ.I 21 (σ.I 196 i) ≤ 20 := fun i h q => (hz _ (hb h i q.1 q.2).1 (hb h i q.1 q.2).2).2
  refine ⟨fun a b ha hb h => ?_, fun a b c ha hb hc h1 h2 => ?_⟩
  · by_cases z : σ.I 0 80 = 0
    · unfold gbX at h ⊢; omega
    · have e := od_neg (σ.I 19) (20 * σ.I 196 a) (σ.I 21 (σ.I 196 a)) (σ.I 19) (20 * σ.I 196 b) (σ.I 21 (σ.I 196 b)) 1000 0 (by omega) (hs a z ha) (hs b z hb) (by omega)
      unfold gbX odX at h ⊢
      omega
  · by_cases z : σ.I 0 80 = 0
    · unfold gbX at h1 h2 ⊢; omega
    · have e1 := od_tr (σ.I 19) (20 * σ.I 196 a) (σ.I 21 (σ.I 196 a)) (σ.I 19) (20 * σ.I 196 b) (σ.I 21 (σ.I 196 b)) (σ.I 19) (20 * σ.I 196 c) (σ.I 21 (σ.I 196 c)) 1000 0 (by omega) (hs a z ha) (hs b z hb) (hs c z hc) (by omega)
      unfold gbX odX at h1 h2 ⊢
      omega
def RWG (σ τ : Sto) (n : Int) (p : Int → Int) : Prop := ∀ i, 0 ≤ i → i < n → τ.I 196 i = σ.I 196 (p i) ∧ τ.I 197 i = σ.I 197 (p i) ∧ τ.I 198 i = σ.I 198 (p i)
def wsSg (c : Nat) (i : Int) : Prop := (c = 196 ∨ c = 197 ∨ c = 198) ∧ 0 ≤ i ∧ i < 6000
abbrev KSg (σ τ : Sto) : Prop := Ch wsSg σ τ
theorem KSg_rf {σ : Sto} : KSg σ σ := Ch.rf
theorem KSg_rd {σ τ : Sto} {F : Nat → Int → Int} (r : τ.R = σ.R) (s : τ.sh = σ.sh) (n : τ.n = σ.n) (e : τ.I = F) (h : ∀ c i, ¬ wsSg c i → F c i = σ.I c i) : KSg σ τ := ⟨⟨r, s, n⟩, fun c i q => by rw [e]; exact h c i q⟩
theorem ksg {σ τ : Sto} (h : KSg σ τ) {c : Nat} (q : c ≠ 196 ∧ c ≠ 197 ∧ c ≠ 198) : τ.I c = σ.I c := funext fun i => Ch.at h (by unfold wsSg; omega)
theorem RWG_bf {σ τ : Sto} {n i j : Int} {p : Int → Int} (k : KSg σ τ) (h : RWG σ τ n p) (hi : 0 ≤ i ∧ i < n) (hj : 0 ≤ j ∧ j < n) : gbX τ i j ↔ gbX σ (p i) (p j) := by
  obtain ⟨a1, a2, a3⟩ := h i hi.1 hi.2
  obtain ⟨b1, b2, b3⟩ := h j hj.1 hj.2
  have e : τ.I 0 80 = σ.I 0 80 := Ch.at k (by unfold wsSg; omega)
  unfold gbX odX
  rw [a1, a2, a3, b1, b2, b3, e, ksg k (c := 19) (by decide), ksg k (c := 21) (by decide)]
theorem RWG_sw {σ τ υ : Sto} {n a b : Int} {p : Int → Int} (h : RWG σ τ n p) (ha : 0 ≤ a ∧ a < n) (hb : 0 ≤ b ∧ b < n) (e : υ.I = fun c i => if at2 c i 196 a then τ.I 196 b else if at2 c i 196 b then τ.I 196 a else if at2 c i 197 a then τ.I 197 b else if at2 c i 197 b then τ.I 197 a else if at2 c i 198 a then τ.I 198 b else if at2 c i 198 b then τ.I 198 a else τ.I c i) : RWG σ υ n (swp p a b) := by
  intro i h0 h1
  have ea := h a ha.1 ha.2
  have eb := h b hb.1 hb.2
  have ei := h i h0 h1
  unfold swp
  rw [e]
  by_cases z1 : i = a
  · subst z1; rw [if_pos rfl]; grind
  · by_cases z2 : i = b
    · subst z2; rw [if_neg z1, if_pos rfl]; grind
    · rw [if_neg z1, if_neg z2]; grind
theorem RWG_b {σ τ : Sto} {n i : Int} {p : Int → Int} (h : RWG σ τ n p) (hp : PRM n p) (hb : GRB σ n) (hw : σ.I 0 80 ≠ 0) (hi : 0 ≤ i ∧ i < n) : 0 ≤ τ.I 196 i ∧ τ.I 196 i < 36500 := by
  rw [(h i hi.1 hi.2).1]; exact hb hw _ (hp.1 i hi.1 hi.2).1 (hp.1 i hi.1 hi.2).2

theorem sp_X0_sortGroups {E : XE} {d : Nat} {σ : Sto}  (hd : 5 ≤ d) (hL : Lay σ)  (p0 : 0 ≤ σ.I 0 79 ∧ σ.I 0 79 ≤ 6000) (p1 : bd_0_20 σ 21 36500) (p2 : GRB σ (σ.I 0 79)) : CC E mX0_sortGroups d [aO 0] σ (RV (fun τ => (∃ p, PRM (σ.I 0 79) p ∧ RWG σ τ (σ.I 0 79) p ∧ ∀ a b, 0 ≤ a → a < b → b < (σ.I 0 79) → ¬ gbX σ (p b) (p a)) ∧ (KSg σ τ))) := by sorry
end
section
/-! contracts: printed by tools/mk.py out of s67_markX.py -/
set_option maxRecDepth 100000
set_option maxHeartbeats 4000000
/-- the row of a leaf: objects where P holds are found, the others are as they were -/
def MKD (σ τ : Sto) (o : Nat) (n : Int) (P : Int → Prop) : Prop := ∀ k, 0 ≤ k → k < 601 → τ.I (o + 23) (601 * σ.I (o + 21) n + k) = if zb (P k) = 1 then 1 else σ.I (o + 23) (601 * σ.I (o + 21) n + k)
theorem MKD_0 {σ : Sto} {o : Nat} {n : Int} {P : Int → Prop} (h : ∀ k, ¬ P k) : MKD σ σ o n P := fun k _ _ => by rw [if_neg (by rw [zb_f (h k)]; decide)]
theorem MKD_iff {σ τ : Sto} {o : Nat} {n : Int} {P P' : Int → Prop} (h : MKD σ τ o n P) (e : ∀ k, P' k ↔ P k) : MKD σ τ o n P' := fun k a b => by rw [h k a b, zb_iff (e k)]
theorem MKD_set {σ τ υ : Sto} {o : Nat} {n b : Int} {P : Int → Prop} (h : MKD σ τ o n P) (e : υ.I = fun c i => if at2 c i (o + 23) (601 * σ.I (o + 21) n + b) then 1 else τ.I c i) : MKD σ υ o n (fun k => P k ∨ k = b) := by
  intro k a c
  rw [e]
  show (if _ then _ else _) = _
  by_cases z : k = b
  · rw [if_pos ⟨rfl, by rw [z]⟩, if_pos (zb_t (Or.inr z))]
  · rw [if_neg (fun y => z (by have := y.2; omega)), h k a c, zb_iff (show P k ∨ k = b ↔ P k from ⟨fun y => y.elim id (fun w => absurd w z), Or.inl⟩)]
def wsFd (o : Nat) (r : Int) (c : Nat) (i : Int) : Prop := c = o + 23 ∧ 601 * r ≤ i ∧ i < 601 * r + 601
abbrev KFd (o : Nat) (r : Int) (σ τ : Sto) : Prop := Ch (wsFd o r) σ τ
theorem KFd_rf {o : Nat} {r : Int} {σ : Sto} : KFd o r σ σ := Ch.rf
theorem KFd_rd {o : Nat} {r : Int} {σ τ : Sto} {F : Nat → Int → Int} (e1 : τ.R = σ.R) (s : τ.sh = σ.sh) (n : τ.n = σ.n) (e : τ.I = F) (h : ∀ c i, ¬ wsFd o r c i → F c i = σ.I c i) : KFd o r σ τ := ⟨⟨e1, s, n⟩, fun c i q => by rw [e]; exact h c i q⟩
theorem kfd {o : Nat} {r : Int} {σ τ : Sto} (h : KFd o r σ τ) {c : Nat} (q : c ≠ o + 23) : τ.I c = σ.I c := funext fun i => h.2 c i (fun z => q z.1)
/-- a chain that is marked, as far as place x -/
def MKI (σ τ : Sto) (o : Nat) (n : Int) (Q : Int → Prop) (ob : Int → Int) (K x : Int) : Prop := (x = -1 ∨ (0 ≤ x ∧ x < K ∧ Q x)) ∧ MKD σ τ o n (fun k => sn σ (o + 15) k ∧ exN (fun i => Q i ∧ ob i = k) (nz x K))
section MKS
variable {σ τ υ : Sto} {o : Nat} {n K x nx : Int} {Q : Int → Prop} {ob : Int → Int}
theorem MKI_j {i : Int} (h0 : 0 ≤ i) (hi : i ≤ K) (hd : MKD σ τ o n (fun k => sn σ (o + 15) k ∧ exN (fun i => Q i ∧ ob i = k) i)) (hn : nx = fsF Q i K) : MKI σ τ o n Q ob K nx := by
  have hb := fsF_in Q i K
  have ht := fsF_bt Q i K h0 hi
  rw [← hn] at hb ht
  have hz : i ≤ nz nx K ∧ ∀ k, i ≤ k → k < nz nx K → ¬ Q k := by
    unfold nz
    by_cases e : nx = -1
    · rw [if_pos e]; exact ⟨hi, ht.1 e⟩
    · rw [if_neg e]; exact ⟨by rcases hb with h | h; (exact absurd h e); (exact h.1), ht.2 e⟩
  refine ⟨?_, MKD_iff hd (fun k => ?_)⟩
  · rcases hb with h | h
    · exact Or.inl h
    · exact Or.inr ⟨by omega, h.2⟩
  · refine and_congr Iff.rfl ⟨fun ⟨a, a0, a1, a2⟩ => ⟨a, a0, ?_, a2⟩, fun ⟨a, a0, a1, a2⟩ => ⟨a, a0, by omega, a2⟩⟩
    rcases Int.lt_or_le a i with z | z
    · exact z
    · exact absurd a2.1 (hz.2 a z a1)
theorem MKI_0 (hK : 0 ≤ K) (hn : nx = fsF Q 0 K) : MKI σ σ o n Q ob K nx := MKI_j (Int.le_refl _) hK (MKD_0 (fun k z => exN_0 _ _ (Int.le_refl _) z.2)) hn
theorem MKI_at (h : MKI σ τ o n Q ob K x) (h0 : 0 ≤ x) : (x < K ∧ Q x) ∧ MKD σ τ o n (fun k => sn σ (o + 15) k ∧ exN (fun i => Q i ∧ ob i = k) x) := by
  obtain ⟨h1, h2⟩ := h
  unfold nz at h2
  rw [if_neg (by omega)] at h2
  exact ⟨h1.elim (fun z => by omega) (fun z => z.2), h2⟩
theorem MKI_e (h : MKI σ τ o n Q ob K x) (h0 : x < 0) : MKD σ τ o n (fun k => sn σ (o + 15) k ∧ exN (fun i => Q i ∧ ob i = k) K) := by
  obtain ⟨h1, h2⟩ := h
  unfold nz at h2
  rw [if_pos (by omega)] at h2
  exact h2
theorem MKI_no (h : MKI σ τ o n Q ob K x) (h0 : 0 ≤ x) (hn : nx = fsF Q (x + 1) K) (hc : ¬ sn σ (o + 15) (ob x)) : MKI σ τ o n Q ob K nx := by
  obtain ⟨⟨h1, h2⟩, h3⟩ := MKI_at h h0
  refine MKI_j (by omega) (by omega) (MKD_iff h3 (fun k => ?_)) hn
  rw [exN_s _ x (x + 1) h0 rfl]
  exact ⟨fun ⟨a, b⟩ => ⟨a, b.elim id (fun c => absurd (c.2 ▸ a) hc)⟩, fun ⟨a, b⟩ => ⟨a, Or.inl b⟩⟩
theorem MKI_yes (h : MKI σ τ o n Q ob K x) (h0 : 0 ≤ x) (hn : nx = fsF Q (x + 1) K) (hs : sn σ (o + 15) (ob x)) (e : υ.I = fun c i => if at2 c i (o + 23) (601 * σ.I (o + 21) n + ob x) then 1 else τ.I c i) : MKI σ υ o n Q ob K nx := by
  obtain ⟨⟨h1, h2⟩, h3⟩ := MKI_at h h0
  refine MKI_j (by omega) (by omega) (MKD_iff (MKD_set h3 e) (fun k => ?_)) hn
  rw [exN_s _ x (x + 1) h0 rfl]
  constructor
  · rintro ⟨a, b | b⟩
    · exact Or.inl ⟨a, b⟩
    · exact Or.inr b.2.symm
  · rintro (⟨a, b⟩ | b)
    · exact ⟨a, Or.inl b⟩
    · rw [b]; exact ⟨hs, Or.inr ⟨h2, rfl⟩⟩
end MKS
/-- a value has a term -/
def vhX (σ : Sto) (t v : Int) : Prop := (σ.I 16 (σ.I 26 v) = 1 ∧ σ.I 33 v = t) ∨ exN (fun i => σ.I 36 (σ.I 31 v + i) = t) (σ.I 32 v)
def dhX (σ : Sto) (t n : Int) : Prop := exN (fun j => vhX σ t (σ.I 0 31 + j)) n
def mkQ (σ : Sto) (o : Nat) (t K V k : Int) : Prop := (σ.I (o + 15) 8 = 0 ∧ sn σ (o + 15) k ∧ ((¬ isWt σ t ∧ exN (fun i => tkQ σ t i ∧ obT σ i = k) K) ∨ (isWt σ t ∧ exN (fun i => wkQ σ t i ∧ σ.I 27 i = k) V))) ∨ (σ.I (o + 15) 8 ≠ 0 ∧ k = σ.I 0 39 ∧ dhX σ t (σ.I 0 20 - σ.I 0 31))
def MKX (σ τ : Sto) (o : Nat) (n t K V x3 x4 : Int) : Prop := (x3 = 0 ∧ ¬ isWt σ t ∧ MKI σ τ o n (tkQ σ t) (obT σ) K x4) ∨ (x3 = 1 ∧ isWt σ t ∧ MKI σ τ o n (wkQ σ t) (σ.I 27) V x4)
theorem MKX_b {σ τ : Sto} {o : Nat} {n t K V x3 x4 : Int} (h : MKX σ τ o n t K V x3 x4) : (x3 = 0 ∨ x3 = 1) ∧ (-1 ≤ x4) ∧ (0 ≤ x4 → (x3 = 0 → x4 < K) ∧ (x3 = 1 → x4 < V ∧ σ.I 16 (σ.I 26 x4) = 1)) := by
  rcases h with ⟨a, b, c⟩ | ⟨a, b, c⟩
  · exact ⟨Or.inl a, by have := c.1; omega, fun h => ⟨fun _ => (MKI_at c h).1.1, fun z => by omega⟩⟩
  · exact ⟨Or.inr a, by have := c.1; omega, fun h => ⟨fun z => by omega, fun _ => ⟨(MKI_at c h).1.1, (MKI_at c h).1.2.1⟩⟩⟩
theorem MKX_e {σ τ : Sto} {o : Nat} {n t K V x3 x4 : Int} (h : MKX σ τ o n t K V x3 x4) (h0 : x4 < 0) (ha : σ.I (o + 15) 8 = 0) : MKD σ τ o n (mkQ σ o t K V) := by
  rcases h with ⟨a, b, c⟩ | ⟨a, b, c⟩
  · refine MKD_iff (MKI_e c h0) (fun k => ⟨fun z => ?_, fun z => Or.inl ⟨ha, z.1, Or.inl ⟨b, z.2⟩⟩⟩)
    rcases z with ⟨z1, z2, ⟨_, z3⟩ | ⟨z3, _⟩⟩ | z
    · exact ⟨z2, z3⟩
    · exact absurd z3 b
    · exact absurd ha z.1
  · refine MKD_iff (MKI_e c h0) (fun k => ⟨fun z => ?_, fun z => Or.inl ⟨ha, z.1, Or.inr ⟨b, z.2⟩⟩⟩)
    rcases z with ⟨z1, z2, ⟨z3, _⟩ | ⟨_, z3⟩⟩ | z
    · exact absurd b z3
    · exact ⟨z2, z3⟩
    · exact absurd ha z.1
theorem MKX_n {σ τ : Sto} {o : Nat} {n t K V x3 x4 : Int} (h : MKX σ τ o n t K V x3 x4) (hP : PT σ K) (hW : PW σ V) (h0 : 0 ≤ x4) : (x3 = 0 → ¬ sn σ (o + 15) (obT σ x4) → MKX σ τ o n t K V x3 (σ.I 37 x4)) ∧ (x3 ≠ 0 → ¬ sn σ (o + 15) (σ.I 27 x4) → MKX σ τ o n t K V x3 (σ.I 34 x4)) := by
  rcases h with ⟨a, b, c⟩ | ⟨a, b, c⟩
  · refine ⟨fun _ g => Or.inl ⟨a, b, ?_⟩, fun z => absurd a z⟩
    obtain ⟨⟨q1, q2⟩, _⟩ := MKI_at c h0
    refine MKI_no c h0 ?_ g
    rw [hP.2 x4 h0 q1, show σ.I 36 x4 = t from q2]
  · refine ⟨fun z => by omega, fun _ g => Or.inr ⟨a, b, ?_⟩⟩
    obtain ⟨⟨q1, q2⟩, _⟩ := MKI_at c h0
    refine MKI_no c h0 ?_ g
    rw [hW.2 x4 h0 q1 q2.1, q2.2]
theorem MKX_y {σ τ υ : Sto} {o : Nat} {n t K V x3 x4 b : Int} (h : MKX σ τ o n t K V x3 x4) (hP : PT σ K) (hW : PW σ V) (h0 : 0 ≤ x4) (e : υ.I = fun c i => if at2 c i (o + 23) (601 * σ.I (o + 21) n + b) then 1 else τ.I c i) (hs : sn σ (o + 15) b) : (x3 = 0 → b = obT σ x4 → MKX σ υ o n t K V x3 (σ.I 37 x4)) ∧ (x3 ≠ 0 → b = σ.I 27 x4 → MKX σ υ o n t K V x3 (σ.I 34 x4)) := by
  rcases h with ⟨a, w, c⟩ | ⟨a, w, c⟩
  · refine ⟨fun _ g => Or.inl ⟨a, w, ?_⟩, fun z => absurd a z⟩
    obtain ⟨⟨q1, q2⟩, _⟩ := MKI_at c h0
    subst g
    refine MKI_yes c h0 ?_ hs e
    rw [hP.2 x4 h0 q1, show σ.I 36 x4 = t from q2]
  · refine ⟨fun z => by omega, fun _ g => Or.inr ⟨a, w, ?_⟩⟩
    obtain ⟨⟨q1, q2⟩, _⟩ := MKI_at c h0
    subst g
    refine MKI_yes c h0 ?_ hs e
    rw [hW.2 x4 h0 q1 q2.1, q2.2]
def fqX (σ : Sto) (o : Nat) (v k : Int) : Prop := exN (fun i => σ.I 36 (σ.I 31 v + i) = σ.I (o + 28) k) (σ.I 32 v)
noncomputable def ftX (σ : Sto) (o : Nat) (n v : Int) : Int := if fsF (fqX σ o v) (σ.I (o + 27) (σ.I (o + 24) n)) (σ.I (o + 27) (σ.I (o + 24) n + 1)) = -1 then -1 else σ.I (o + 28) (fsF (fqX σ o v) (σ.I (o + 27) (σ.I (o + 24) n)) (σ.I (o + 27) (σ.I (o + 24) n + 1)))
theorem sx16_1 : sx16 1 = 1 := by decide
/-- what the draft's values are like -/
def DRV (σ : Sto) : Prop := (0 ≤ σ.I 0 31 ∧ σ.I 0 31 ≤ σ.I 0 20 ∧ σ.I 0 20 ≤ 6000) ∧ ∀ v, σ.I 0 31 ≤ v → v < σ.I 0 20 → (0 ≤ σ.I 26 v ∧ σ.I 26 v < 12) ∧ 0 ≤ σ.I 31 v ∧ 0 ≤ σ.I 32 v ∧ σ.I 32 v ≤ 250 ∧ σ.I 31 v + σ.I 32 v ≤ 24000

theorem sp_X5_markAlone {E : XE} {d : Nat} {σ : Sto} {o0 : Nat} {x1 : Int} {x2 : Int} (hd : 2 ≤ d) (hL : Lay σ) (ho0 : At5 σ o0) (p0 : o0 = 87 ∨ o0 = 121 ∨ o0 = 155) (p1 : 0 ≤ x1 ∧ x1 < 200) (p2 : bd_0_59 σ (o0 + 21) 200) (p3 : inR x2) (p4 : DRV σ) (p5 : 0 ≤ σ.I 0 39 ∧ σ.I 0 39 < 601) : CC E mX5_markAlone d [aO o0, aI (x1), aI (x2)] σ (RV (fun τ => (MKD σ τ o0 x1 (fun k => k = σ.I 0 39 ∧ dhX σ x2 (σ.I 0 20 - σ.I 0 31))) ∧ (KFd o0 (σ.I (o0 + 21) x1) σ τ))) := by sorry
theorem sp_X5_firstTerm {E : XE} {d : Nat} {σ : Sto} {o0 : Nat} {x1 : Int} {x2 : Int} (hd : 1 ≤ d) (hL : Lay σ) (ho0 : At5 σ o0) (p0 : 0 ≤ x1 ∧ x1 < 200) (p1 : 0 ≤ x2 ∧ x2 < 6000) (p2 : 0 ≤ σ.I 31 x2 ∧ 0 ≤ σ.I 32 x2 ∧ σ.I 31 x2 + σ.I 32 x2 ≤ 24000) (p3 : 0 ≤ σ.I (o0 + 24) x1 ∧ σ.I (o0 + 24) x1 < 1000) (p4 : 0 ≤ (σ.I (o0 + 27) (σ.I (o0 + 24) x1)) ∧ (σ.I (o0 + 27) (σ.I (o0 + 24) x1)) ≤ (σ.I (o0 + 27) (σ.I (o0 + 24) x1 + 1)) ∧ (σ.I (o0 + 27) (σ.I (o0 + 24) x1 + 1)) ≤ 6000) : CC E mX5_firstTerm d [aO o0, aI (x1), aI (x2)] σ (RI σ (ftX σ o0 x1 x2)) := by sorry
theorem sp_X5_mark {E : XE} {d : Nat} {σ : Sto} {K : Int} {V : Int} {o0 : Nat} {x1 : Int} {x2 : Int} (hd : 3 ≤ d) (hL : Lay σ) (ho0 : At5 σ o0) (p0 : o0 = 87 ∨ o0 = 121 ∨ o0 = 155) (p1 : 0 ≤ x1 ∧ x1 < 200) (p2 : bd_0_59 σ (o0 + 21) 200) (p3 : 0 ≤ x2 ∧ x2 < σ.I 18 7 ∧ σ.I 18 7 < 36500) (p4 : 0 ≤ σ.I 20 x2 ∧ σ.I 20 x2 < 12) (p5 : PT σ K) (p6 : PW σ V) (p7 : OBV σ K V) (p8 : DRV σ) (p9 : 0 ≤ σ.I 0 39 ∧ σ.I 0 39 < 601) : CC E mX5_mark d [aO o0, aI (x1), aI (x2)] σ (RV (fun τ => (MKD σ τ o0 x1 (mkQ σ o0 x2 K V)) ∧ (KFd o0 (σ.I (o0 + 21) x1) σ τ))) := by sorry
end
section
/-! contracts: printed by tools/mk.py out of s72_group.py -/
set_option maxRecDepth 100000
set_option maxHeartbeats 1200000
/-- groups in the order in which they come: how many; of each its key, how many hits, the first and the last of them -/
abbrev GSt : Type := Int × (Int → Int) × (Int → Int) × (Int → Int) × (Int → Int)
noncomputable def gix (E : Int → Int → Prop) (s : GSt) (key : Int) : Int := fsF (fun i => E (s.2.1 i) key) 0 s.1
noncomputable def gjn (E : Int → Int → Prop) (s : GSt) (hit key : Int) : GSt :=
  if gix E s key = -1 then (s.1 + 1, up1 s.2.1 s.1 key, up1 s.2.2.1 s.1 1, up1 s.2.2.2.1 s.1 hit, up1 s.2.2.2.2 s.1 hit)
  else if s.2.2.2.2 (gix E s key) = hit then s
  else (s.1, s.2.1, up1 s.2.2.1 (gix E s key) (s.2.2.1 (gix E s key) + 1), s.2.2.2.1, up1 s.2.2.2.2 (gix E s key) hit)
theorem gjn_new {E : Int → Int → Prop} {s : GSt} {hit key : Int} (h : gix E s key = -1) : gjn E s hit key = (s.1 + 1, up1 s.2.1 s.1 key, up1 s.2.2.1 s.1 1, up1 s.2.2.2.1 s.1 hit, up1 s.2.2.2.2 s.1 hit) := if_pos h
theorem gjn_old {E : Int → Int → Prop} {s : GSt} {hit key g : Int} (h : gix E s key = g) (hg : g ≠ -1) (hl : s.2.2.2.2 g = hit) : gjn E s hit key = s := by
  unfold gjn; rw [if_neg (by omega), h, if_pos hl]
theorem gjn_more {E : Int → Int → Prop} {s : GSt} {hit key g : Int} (h : gix E s key = g) (hg : g ≠ -1) (hl : s.2.2.2.2 g ≠ hit) : gjn E s hit key = (s.1, s.2.1, up1 s.2.2.1 g (s.2.2.1 g + 1), s.2.2.2.1, up1 s.2.2.2.2 g hit) := by
  unfold gjn; rw [if_neg (by omega), h, if_neg hl]
theorem gix_at {E : Int → Int → Prop} {s : GSt} {key g : Int} (h0 : 0 ≤ g) (h1 : g < s.1) (he : E (s.2.1 g) key) (hn : ∀ i, 0 ≤ i → i < g → ¬ E (s.2.1 i) key) : gix E s key = g := fsF_is h0 h1 he hn
theorem gix_no {E : Int → Int → Prop} {s : GSt} {key : Int} (hn : ∀ i, 0 ≤ i → i < s.1 → ¬ E (s.2.1 i) key) : gix E s key = -1 := by
  rcases fsF_in (fun i => E (s.2.1 i) key) 0 s.1 with h | h
  · exact h
  · exact absurd h.2.2 (hn _ h.1 h.2.1)
/-- the model's groups -/
def eqM (σ : Sto) (a b : Int) : Prop := (σ.I 555 141 ≠ 0 ∧ odM σ a b = 0) ∨ (σ.I 555 141 = 0 ∧ a = b)
def kyG (σ : Sto) : Int → Int := if σ.I 555 141 = 0 then σ.I 659 else σ.I 658
def gsM (σ : Sto) : GSt := (σ.I 555 135, kyG σ, σ.I 656, σ.I 657, σ.I 660)
def wsGj (c : Nat) (i : Int) : Prop := (656 ≤ c ∧ c ≤ 660) ∨ (c = 555 ∧ i = 135)
abbrev KGj (σ τ : Sto) : Prop := Ch wsGj σ τ
theorem KGj_rf {σ : Sto} : KGj σ σ := Ch.rf
theorem KGj_w {σ τ : Sto} {a : Nat} {i v : Int} (e : τ = σ.wI a i v) (h : wsGj a i) : KGj σ τ := by rw [e]; exact Ch.wI Ch.rf h
theorem kgj {σ τ : Sto} (h : KGj σ τ) {c : Nat} (q : c < 555 ∨ (555 < c ∧ c < 656) ∨ 660 < c) : τ.I c = σ.I c := funext fun i => h.2 c i (by unfold wsGj; omega)
theorem eqM_k {σ τ : Sto} (h : KGj σ τ) : eqM τ = eqM σ := by
  funext a b; unfold eqM odM
  rw [show τ.I 555 141 = σ.I 555 141 from h.2 _ _ (by unfold wsGj; omega), kgj h (c := 586) (by decide), kgj h (c := 587) (by decide)]
theorem wI_same {σ τ : Sto} {a : Nat} {i v : Int} (e : τ = σ.wI a i v) : τ.I a = up1 (σ.I a) i v := by
  funext k; rw [e]; show (if _ then _ else _) = _; unfold up1
  by_cases z : k = i
  · rw [if_pos ⟨rfl, z⟩, if_pos z]
  · rw [if_neg (fun y => z y.2), if_neg z]
theorem wI_diff {σ τ : Sto} {a c : Nat} {i v : Int} (e : τ = σ.wI a i v) (h : c ≠ a) : τ.I c = σ.I c := by
  funext k; rw [e]; exact I_ne _ _ _ _ h
theorem up1_up {f : Int → Int} {i a b : Int} : up1 (up1 f i a) i b = up1 f i b := by
  funext k; unfold up1; split <;> rfl

theorem sp_X9_joinGroup {E : XE} {d : Nat} {σ : Sto} {x1 : Int} {x2 : Int} {y3 : Int} (hd : 3 ≤ d) (hL : Lay σ)  (p0 : 0 ≤ x1 ∧ x1 < 600) (p1 : 0 ≤ x2 ∧ x2 ≤ 24000 ∧ (σ.I 555 141 ≠ 0 → x2 < 24000)) (p2 : inL y3) (p3 : 0 ≤ σ.I 555 135 ∧ σ.I 555 135 < 6000) (p4 : ∀ i, 0 ≤ i → i < σ.I 555 135 → σ.I 555 141 ≠ 0 → 0 ≤ σ.I 658 i ∧ σ.I 658 i < 24000) (p5 : bd_0_20 σ 587 24000) (p6 : σ.I 555 141 = 0 ∨ σ.I 555 141 = 1) (p7 : ∀ i, 0 ≤ i → i < σ.I 555 135 → 0 ≤ σ.I 656 i ∧ σ.I 656 i ≤ 600) : CC E mX9_joinGroup d [aO 555, aI (x1), aI (x2), aL (y3)] σ (RV (fun τ => (gsM τ = gjn (eqM σ) (gsM σ) x1 (if σ.I 555 141 = 0 then y3 else x2)) ∧ (KGj σ τ))) := by sorry
theorem fsF_cg2 {p q : Int → Prop} {n : Int} (h : ∀ k, 0 ≤ k → k < n → (p k ↔ q k)) : fsF p 0 n = fsF q 0 n := by
  by_cases hn : 0 ≤ n
  · have a := fsF_in p 0 n
    have b := fsF_in q 0 n
    have c := fsF_bt p 0 n (Int.le_refl _) hn
    have d := fsF_bt q 0 n (Int.le_refl _) hn
    rcases a with a | a
    · rcases b with b | b
      · rw [a, b]
      · exact absurd ((h _ b.1 b.2.1).mpr b.2.2) (c.1 a _ b.1 b.2.1)
    · rcases b with b | b
      · exact absurd ((h _ a.1 a.2.1).mp a.2.2) (d.1 b _ a.1 a.2.1)
      · rcases Int.lt_trichotomy (fsF p 0 n) (fsF q 0 n) with z | z | z
        · exact absurd ((h _ a.1 a.2.1).mp a.2.2) (d.2 (by omega) _ a.1 z)
        · exact z
        · exact absurd ((h _ b.1 b.2.1).mpr b.2.2) (c.2 (by omega) _ b.1 z)
  · rw [fsF_e p 0 n (by omega), fsF_e q 0 n (by omega)]
/-- the program's groups -/
def gsX (σ : Sto) : GSt := (σ.I 0 79, σ.I 196, σ.I 197, σ.I 198, σ.I 200)
def GOF (σ : Sto) : Prop := ∀ t, 0 ≤ t → t < 36500 → σ.I 199 t = fsF (fun i => σ.I 196 i = t) 0 (σ.I 0 79) + 1
def wsGx (c : Nat) (i : Int) : Prop := (196 ≤ c ∧ c ≤ 200) ∨ (c = 0 ∧ i = 79)
abbrev KGx (σ τ : Sto) : Prop := Ch wsGx σ τ
theorem KGx_rf {σ : Sto} : KGx σ σ := Ch.rf
theorem KGx_w {σ τ : Sto} {a : Nat} {i v : Int} (e : τ = σ.wI a i v) (h : wsGx a i) : KGx σ τ := by rw [e]; exact Ch.wI Ch.rf h
theorem GOF_new {σ τ : Sto} {t : Int} (h : GOF σ) (h0 : 0 ≤ σ.I 0 79) (hn : σ.I 199 t = 0) (ht : 0 ≤ t ∧ t < 36500) (e1 : τ.I 0 79 = σ.I 0 79 + 1) (e2 : τ.I 196 = up1 (σ.I 196) (σ.I 0 79) t) (e3 : τ.I 199 = up1 (σ.I 199) t (σ.I 0 79 + 1)) : GOF τ := by
  intro u u0 u1
  rw [e1, e2, e3]
  have ec : fsF (fun i => up1 (σ.I 196) (σ.I 0 79) t i = u) 0 (σ.I 0 79) = fsF (fun i => σ.I 196 i = u) 0 (σ.I 0 79) := fsF_cg2 (fun k a b => by unfold up1; rw [if_neg (by omega)])
  rw [fsF_x _ 0 (σ.I 0 79) (σ.I 0 79 + 1) (Int.le_refl _) h0 rfl, ec]
  have hu := h u u0 u1
  have eg : up1 (σ.I 196) (σ.I 0 79) t (σ.I 0 79) = t := if_pos rfl
  by_cases z : u = t
  · subst z
    rw [hn] at hu
    rw [if_pos (by omega), eg, if_pos (zb_t rfl)]; exact if_pos rfl
  · have : up1 (σ.I 199) t (σ.I 0 79 + 1) u = σ.I 199 u := if_neg z
    rw [this, hu, eg]
    by_cases y : fsF (fun i => σ.I 196 i = u) 0 (σ.I 0 79) = -1
    · rw [if_pos y, if_neg (by rw [zb_f (fun w => z w.symm)]; decide), y]
    · rw [if_neg y]

theorem sp_X0_addTo {E : XE} {d : Nat} {σ : Sto} {x1 : Int} {x2 : Int} (hd : 1 ≤ d) (hL : Lay σ)  (p0 : 0 ≤ x1 ∧ x1 < 36500) (p1 : 0 ≤ x2 ∧ x2 < 600) (p2 : 0 ≤ σ.I 0 79 ∧ σ.I 0 79 < 6000) (p3 : GOF σ) (p4 : ∀ i, 0 ≤ i → i < σ.I 0 79 → 1 ≤ σ.I 197 i ∧ σ.I 197 i ≤ 600) : CC E mX0_addTo d [aO 0, aI (x1), aI (x2)] σ (RV (fun τ => (gsX τ = gjn (fun a b => a = b) (gsX σ) x2 x1) ∧ (GOF τ) ∧ (KGx σ τ))) := by sorry
end
section
/-! contracts: printed by tools/mk.py out of s73_giv.py -/
set_option maxRecDepth 100000
set_option maxHeartbeats 1200000
/-- what groups are, once pairs (hit, key) have come: every key that came has its group, each group counts its hits -/
def hsP (E : Int → Int → Prop) (P : Int → Int → Prop) (key k : Int) : Prop := ∃ u, P k u ∧ E key u
def EQV (D : Int → Prop) (E : Int → Int → Prop) : Prop := (∀ a, D a → E a a) ∧ (∀ a b, D a → D b → E a b → E b a) ∧ ∀ a b c, D a → D b → D c → E a b → E b c → E a c
def GI6 (E : Int → Int → Prop) (s : GSt) (P : Int → Int → Prop) (n i : Int) : Prop := s.2.2.1 i = cn (hsP E P (s.2.1 i)) n ∧ s.2.2.2.1 i = fsF (hsP E P (s.2.1 i)) 0 n ∧ s.2.2.2.2 i = ls (hsP E P (s.2.1 i)) n
def GIV (D : Int → Prop) (E : Int → Int → Prop) (s : GSt) (P : Int → Int → Prop) (n : Int) : Prop := 0 ≤ s.1 ∧ (∀ k u, P k u → (0 ≤ k ∧ k < n) ∧ D u) ∧ (∀ i, 0 ≤ i → i < s.1 → ∃ k, P k (s.2.1 i)) ∧ (∀ k u, P k u → ∃ i, 0 ≤ i ∧ i < s.1 ∧ E (s.2.1 i) u) ∧ (∀ i j, 0 ≤ i → i < j → j < s.1 → ¬ E (s.2.1 i) (s.2.1 j)) ∧ ∀ i, 0 ≤ i → i < s.1 → GI6 E s P n i
section GIVS
variable {E : Int → Int → Prop} {s : GSt} {P : Int → Int → Prop} {n u : Int} {D : Int → Prop}
theorem GIV_0 {s : GSt} (h : s.1 = 0) : GIV D E s (fun _ _ => False) 0 := ⟨by omega, fun k u z => z.elim, fun i a b => by omega, fun k u z => z.elim, fun i j a b c => by omega, fun i a b => by omega⟩
theorem GIV_D (h : GIV D E s P n) {i : Int} (h0 : 0 ≤ i) (h1 : i < s.1) : D (s.2.1 i) := by
  obtain ⟨k, z⟩ := h.2.2.1 i h0 h1; exact (h.2.1 k _ z).2
theorem GIV_next (h : GIV D E s P n) (hn : 0 ≤ n) : GIV D E s P (n + 1) := by
  obtain ⟨a1, a2, a3, a4, a5, a6⟩ := h
  refine ⟨a1, fun k u z => ⟨by have := (a2 k u z).1; omega, (a2 k u z).2⟩, a3, a4, a5, fun i i0 i1 => ?_⟩
  obtain ⟨b1, b2, b3⟩ := a6 i i0 i1
  have hq : ¬ hsP E P (s.2.1 i) n := fun ⟨u, z, _⟩ => by have := (a2 n u z).1; omega
  refine ⟨?_, ?_, ?_⟩
  · rw [b1, cn_s _ n (n + 1) hn rfl, zb_f hq]; omega
  · rw [b2, fsF_x _ 0 n (n + 1) (Int.le_refl _) hn rfl, if_neg (show ¬ zb (hsP E P (s.2.1 i) n) = 1 by rw [zb_f hq]; decide)]
    split
    · assumption
    · rfl
  · rw [b3, ls_f _ n (n + 1) hn rfl hq]
theorem ls_is {q : Int → Prop} {n j : Int} (h0 : 0 ≤ j) (h1 : j < n) (hj : q j) (hn : ∀ i, j < i → i < n → ¬ q i) : ls q n = j := by
  obtain ⟨m, hm⟩ := Int.eq_ofNat_of_zero_le (show 0 ≤ n - (j + 1) by omega)
  have e : n = j + 1 + m := by omega
  subst e
  clear hm h1
  induction m with
  | zero => exact ls_t q j _ h0 (by omega) hj
  | succ m ih =>
    rw [ls_f q (j + 1 + m) _ (by omega) (by omega) (hn _ (by omega) (by omega))]
    exact ih (fun i a b => hn i a (by omega))
theorem cn_one {p q : Int → Prop} {h : Int} (hq : ∀ k, q k ↔ (p k ∨ k = h)) (hp : ¬ p h) (h0 : 0 ≤ h) : ∀ m : Nat, cn q (m : Int) = cn p (m : Int) + (if h < (m : Int) then 1 else 0) := by
  intro m
  induction m with
  | zero => rw [cn_0 q _ (by omega), cn_0 p _ (by omega), if_neg (by omega)] <;> omega
  | succ m ih =>
    have eq := cn_s q (m : Int) ((m + 1 : Nat) : Int) (by omega) (by omega)
    have ep := cn_s p (m : Int) ((m + 1 : Nat) : Int) (by omega) (by omega)
    by_cases e : (m : Int) = h
    · have z1 : zb (q (m : Int)) = 1 := zb_t ((hq _).mpr (Or.inr e))
      have z2 : zb (p (m : Int)) = 0 := zb_f (by rw [e]; exact hp)
      rw [if_neg (by omega)] at ih
      rw [if_pos (by omega)]; omega
    · have z : zb (q (m : Int)) = zb (p (m : Int)) := congrArg zb (propext ((hq m).trans ⟨fun z => z.elim id (fun y => absurd y e), Or.inl⟩))
      by_cases g : h < (m : Int)
      · rw [if_pos g] at ih; rw [if_pos (by omega)]; omega
      · rw [if_neg g] at ih; rw [if_neg (by omega)]; omega
theorem hs_old {key h : Int} (hk : ¬ E key u) (k : Int) : hsP E (fun k v => P k v ∨ (k = h ∧ v = u)) key k ↔ hsP E P key k := by
  constructor
  · rintro ⟨v, z | z, e⟩
    · exact ⟨v, z, e⟩
    · rw [z.2] at e; exact absurd e hk
  · rintro ⟨v, z, e⟩; exact ⟨v, Or.inl z, e⟩
theorem hs_new {key h : Int} (hk : E key u) (k : Int) : hsP E (fun k v => P k v ∨ (k = h ∧ v = u)) key k ↔ (hsP E P key k ∨ k = h) := by
  constructor
  · rintro ⟨v, z | z, e⟩
    · exact Or.inl ⟨v, z, e⟩
    · exact Or.inr z.1
  · rintro (⟨v, z, e⟩ | z)
    · exact ⟨v, Or.inl z, e⟩
    · exact ⟨u, Or.inr ⟨z, rfl⟩, hk⟩
theorem G6_old {i h : Int} (g : GI6 E s P n i) (he : ¬ E (s.2.1 i) u) : GI6 E s (fun k v => P k v ∨ (k = h ∧ v = u)) n i := by
  obtain ⟨b1, b2, b3⟩ := g
  refine ⟨?_, ?_, ?_⟩
  · rw [b1]; exact cn_cg (fun k _ _ => (hs_old he k).symm)
  · rw [b2]; exact fsF_cg2 (fun k _ _ => (hs_old he k).symm)
  · rw [b3]; exact ls_cg (fun k _ _ => (hs_old he k).symm)
/-- a pair comes whose hit is none before those that its key had -/
theorem GIV_addg {h : Int} (g : GIV D E s P n) (he : EQV D E) (hh : 0 ≤ h ∧ h < n) (hu : D u) (hm : ∀ k v, P k v → E v u → k ≤ h) : GIV D E (gjn E s h u) (fun k v => P k v ∨ (k = h ∧ v = u)) n := by
  have hD := fun i a b => GIV_D g (i := i) a b
  obtain ⟨a1, a2, a3, a4, a5, a6⟩ := g
  obtain ⟨nn, hnn⟩ := Int.eq_ofNat_of_zero_le (show 0 ≤ n by omega)
  have a2' : ∀ k v, (P k v ∨ (k = h ∧ v = u)) → (0 ≤ k ∧ k < n) ∧ D v := by
    rintro k v (z | z)
    · exact a2 k v z
    · rw [z.1, z.2]; exact ⟨hh, hu⟩
  by_cases hg : gix E s u = -1
  · -- a new group
    have hno : ∀ i, 0 ≤ i → i < s.1 → ¬ E (s.2.1 i) u := fun i i0 i1 => (fsF_bt (fun i => E (s.2.1 i) u) 0 s.1 (Int.le_refl _) a1).1 hg i i0 i1
    rw [gjn_new hg]
    have ek : ∀ i, i < s.1 → up1 s.2.1 s.1 u i = s.2.1 i := fun i z => if_neg (by omega)
    have en : up1 s.2.1 s.1 u s.1 = u := if_pos rfl
    have hfalse : ∀ k, k ≠ h → ¬ hsP E (fun k v => P k v ∨ (k = h ∧ v = u)) u k := by
      rintro k kn ⟨v, z | z, e⟩
      · obtain ⟨i, i0, i1, i2⟩ := a4 k v z
        have dv := (a2 k v z).2
        exact hno i i0 i1 (he.2.2 _ v u (hD i i0 i1) dv hu i2 (he.2.1 u v hu dv e))
      · exact kn z.1
    have htrue : hsP E (fun k v => P k v ∨ (k = h ∧ v = u)) u h := ⟨u, Or.inr ⟨rfl, rfl⟩, he.1 u hu⟩
    refine ⟨by show 0 ≤ s.1 + 1; omega, a2', fun i i0 i1 => ?_, ?_, fun i j i0 ij j1 => ?_, fun i i0 i1 => ?_⟩
    · have i1 : i < s.1 + 1 := i1
      show ∃ k, P k (up1 s.2.1 s.1 u i) ∨ _
      by_cases z : i = s.1
      · exact ⟨h, Or.inr ⟨rfl, by rw [z]; exact en⟩⟩
      · obtain ⟨k, y⟩ := a3 i i0 (by omega)
        exact ⟨k, Or.inl (by rw [ek i (by omega)]; exact y)⟩
    · rintro k v (z | z)
      · obtain ⟨i, i0, i1, i2⟩ := a4 k v z
        exact ⟨i, i0, by show i < s.1 + 1; omega, by show E (up1 s.2.1 s.1 u i) v; rw [ek i i1]; exact i2⟩
      · exact ⟨s.1, a1, by show s.1 < s.1 + 1; omega, by show E (up1 s.2.1 s.1 u s.1) v; rw [en, z.2]; exact he.1 u hu⟩
    · have j1 : j < s.1 + 1 := j1
      show ¬ E (up1 s.2.1 s.1 u i) (up1 s.2.1 s.1 u j)
      by_cases z : j = s.1
      · rw [z, en, ek i (by omega)]; exact hno i i0 (by omega)
      · rw [ek i (by omega), ek j (by omega)]; exact a5 i j i0 ij (by omega)
    · have i1 : i < s.1 + 1 := i1
      by_cases z : i = s.1
      · subst z
        unfold GI6
        show up1 s.2.2.1 s.1 1 s.1 = cn (hsP E _ (up1 s.2.1 s.1 u s.1)) n ∧ up1 s.2.2.2.1 s.1 h s.1 = fsF (hsP E _ (up1 s.2.1 s.1 u s.1)) 0 n ∧ up1 s.2.2.2.2 s.1 h s.1 = ls (hsP E _ (up1 s.2.1 s.1 u s.1)) n
        rw [en]
        have e1 : up1 s.2.2.1 s.1 1 s.1 = 1 := if_pos rfl
        have e2 : up1 s.2.2.2.1 s.1 h s.1 = h := if_pos rfl
        have e3 : up1 s.2.2.2.2 s.1 h s.1 = h := if_pos rfl
        rw [e1, e2, e3]
        refine ⟨?_, ?_, ?_⟩
        · have c1 := cn_one (p := fun _ => False) (q := hsP E (fun k v => P k v ∨ (k = h ∧ v = u)) u) (h := h) (fun k => ⟨fun z => Or.inr (Classical.byContradiction (fun y => hfalse k y z)), fun z => z.elim False.elim (fun e => e ▸ htrue)⟩) (fun z => z) hh.1 nn
          have c2 := cn_no (p := fun _ => False) nn (fun j _ _ z => z)
          rw [if_pos (by omega), c2] at c1
          rw [hnn]; exact c1.symm
        · exact (fsF_is hh.1 hh.2 htrue (fun i i0 i1 => hfalse i (by omega))).symm
        · exact (ls_is hh.1 hh.2 htrue (fun i i0 i1 => hfalse i (by omega))).symm
      · have q := G6_old (u := u) (h := h) (a6 i i0 (by omega)) (hno i i0 (by omega))
        unfold GI6 at q ⊢
        show up1 s.2.2.1 s.1 1 i = cn (hsP E _ (up1 s.2.1 s.1 u i)) n ∧ up1 s.2.2.2.1 s.1 h i = fsF (hsP E _ (up1 s.2.1 s.1 u i)) 0 n ∧ up1 s.2.2.2.2 s.1 h i = ls (hsP E _ (up1 s.2.1 s.1 u i)) n
        rw [ek i (by omega), show up1 s.2.2.1 s.1 1 i = s.2.2.1 i from if_neg z, show up1 s.2.2.2.1 s.1 h i = s.2.2.2.1 i from if_neg z, show up1 s.2.2.2.2 s.1 h i = s.2.2.2.2 i from if_neg z]
        exact q
  · -- the group is there
    obtain ⟨g, hgg⟩ : ∃ g, gix E s u = g := ⟨_, rfl⟩
    rw [hgg] at hg
    have hin : 0 ≤ g ∧ g < s.1 ∧ E (s.2.1 g) u := by
      rcases fsF_in (fun i => E (s.2.1 i) u) 0 s.1 with z | z
      · exact absurd (hgg.symm.trans z) hg
      · have e : fsF (fun i => E (s.2.1 i) u) 0 s.1 = g := hgg
        rw [e] at z; exact z
    have hoth : ∀ i, 0 ≤ i → i < s.1 → i ≠ g → ¬ E (s.2.1 i) u := by
      intro i i0 i1 ne e
      rcases Int.lt_or_le i g with z | z
      · exact a5 i g i0 z hin.2.1 (he.2.2 _ u _ (hD i i0 i1) hu (hD g hin.1 hin.2.1) e (he.2.1 _ u (hD g hin.1 hin.2.1) hu hin.2.2))
      · exact a5 g i hin.1 (by omega) i1 (he.2.2 _ u _ (hD g hin.1 hin.2.1) hu (hD i i0 i1) hin.2.2 (he.2.1 _ u (hD i i0 i1) hu e))
    have a4' : ∀ k v, (P k v ∨ (k = h ∧ v = u)) → ∃ i, 0 ≤ i ∧ i < s.1 ∧ E (s.2.1 i) v := by
      rintro k v (z | z)
      · exact a4 k v z
      · rw [z.2]; exact ⟨g, hin⟩
    have a3' : ∀ i, 0 ≤ i → i < s.1 → ∃ k, P k (s.2.1 i) ∨ (k = h ∧ s.2.1 i = u) := fun i i0 i1 => by
      obtain ⟨k, y⟩ := a3 i i0 i1; exact ⟨k, Or.inl y⟩
    have hDg := hD g hin.1 hin.2.1
    have hle : ∀ k, hsP E P (s.2.1 g) k → k ≤ h := fun k ⟨v, y, e⟩ => hm k v y (he.2.2 v _ u (a2 k v y).2 hDg hu (he.2.1 _ v hDg (a2 k v y).2 e) hin.2.2)
    have hc := fun k => hs_new (P := P) (h := h) hin.2.2 k
    obtain ⟨b1, b2, b3⟩ := a6 g hin.1 hin.2.1
    by_cases hl : s.2.2.2.2 g = h
    · rw [gjn_old hgg hg hl]
      refine ⟨a1, a2', a3', a4', a5, fun i i0 i1 => ?_⟩
      by_cases z : i = g
      · subst z
        have hq : hsP E P (s.2.1 i) h := by
          rcases ls_in (hsP E P (s.2.1 i)) n with y | y
          · omega
          · rw [← b3, hl] at y; exact y.2.2
        have hc : ∀ k, hsP E (fun k v => P k v ∨ (k = h ∧ v = u)) (s.2.1 i) k ↔ hsP E P (s.2.1 i) k := fun k => (hc k).trans ⟨fun w => w.elim id (fun e => e ▸ hq), Or.inl⟩
        refine ⟨?_, ?_, ?_⟩
        · rw [b1]; exact cn_cg (fun k _ _ => (hc k).symm)
        · rw [b2]; exact fsF_cg2 (fun k _ _ => (hc k).symm)
        · rw [b3]; exact ls_cg (fun k _ _ => (hc k).symm)
      · exact G6_old (a6 i i0 i1) (hoth i i0 i1 z)
    · rw [gjn_more hgg hg hl]
      refine ⟨a1, a2', a3', a4', a5, fun i i0 i1 => ?_⟩
      have i1 : i < s.1 := i1
      unfold GI6
      show up1 s.2.2.1 g (s.2.2.1 g + 1) i = cn (hsP E _ (s.2.1 i)) n ∧ s.2.2.2.1 i = fsF (hsP E _ (s.2.1 i)) 0 n ∧ up1 s.2.2.2.2 g h i = ls (hsP E _ (s.2.1 i)) n
      by_cases z : i = g
      · subst z
        have hq : ¬ hsP E P (s.2.1 i) h := fun y => hl (by rw [b3]; exact ls_is hh.1 hh.2 y (fun j j0 j1 w => by have := hle j w; omega))
        have e1 : up1 s.2.2.1 i (s.2.2.1 i + 1) i = s.2.2.1 i + 1 := if_pos rfl
        have e2 : up1 s.2.2.2.2 i h i = h := if_pos rfl
        rw [e1, e2]
        refine ⟨?_, ?_, ?_⟩
        · have c1 := cn_one (q := hsP E (fun k v => P k v ∨ (k = h ∧ v = u)) (s.2.1 i)) hc hq hh.1 nn
          rw [if_pos (by omega), ← hnn, ← b1] at c1
          exact c1.symm
        · rw [b2]
          obtain ⟨k, y⟩ := a3 i i0 i1
          have hk := (a2 k _ y).1
          have hy : hsP E P (s.2.1 i) k := ⟨_, y, he.1 _ (hD i i0 i1)⟩
          have hkn : k ≠ h := fun e => hq (e ▸ hy)
          have hkl := hle k hy
          have f1 := fsF_no hk.1 hk.2 hy
          have f2 := fsF_bt (hsP E P (s.2.1 i)) 0 n (Int.le_refl _) (by omega)
          rcases fsF_in (hsP E P (s.2.1 i)) 0 n with f3 | f3
          · exact absurd f3 f1
          · have f4 : fsF (hsP E P (s.2.1 i)) 0 n ≤ k := by
              rcases Int.lt_or_le k (fsF (hsP E P (s.2.1 i)) 0 n) with w | w
              · exact absurd hy (f2.2 f1 k hk.1 w)
              · exact w
            exact (fsF_is f3.1 f3.2.1 ((hc _).mpr (Or.inl f3.2.2)) (fun j j0 j1 w => by
              rcases (hc j).mp w with v | v
              · exact f2.2 f1 j j0 j1 v
              · omega)).symm
        · exact (ls_is hh.1 hh.2 ((hc h).mpr (Or.inr rfl)) (fun j j0 j1 w => by
            rcases (hc j).mp w with v | v
            · have := hle j v; omega
            · omega)).symm
      · have q := G6_old (u := u) (h := h) (a6 i i0 i1) (hoth i i0 i1 z)
        rw [show up1 s.2.2.1 g (s.2.2.1 g + 1) i = s.2.2.1 i from if_neg z, show up1 s.2.2.2.2 g h i = s.2.2.2.2 i from if_neg z]
        exact q
theorem GIV_add (h : GIV D E s P n) (he : EQV D E) (hn : 0 < n) (hu : D u) : GIV D E (gjn E s (n - 1) u) (fun k v => P k v ∨ (k = n - 1 ∧ v = u)) n := GIV_addg h he (by omega) hu (fun k v z _ => by have := (h.2.1 k v z).1; omega)
theorem GIV_iff {P' : Int → Int → Prop} (h : GIV D E s P n) (e : ∀ k v, P' k v ↔ P k v) : GIV D E s P' n := by
  have : P' = P := funext fun k => funext fun v => propext (e k v)
  rw [this]; exact h
end GIVS
/-- which pairs (hit, key) there are: those of the hits below n, and of hit n the values below m -/
def PGg (H Fi Co Vf κ : Int → Int) (sh : Prop) (f n m k u : Int) : Prop := ∃ j, 0 ≤ j ∧ ((0 ≤ k ∧ k < n ∧ j < Co (H k)) ∨ (k = n ∧ j < m)) ∧ (Vf (Fi (H k) + j) = f ∧ sh) ∧ u = κ (Fi (H k) + j)
noncomputable def SCg (H Co : Int → Int) (n : Int) : Int := smP (fun _ => True) (fun k => Co (H k)) n
section PGS
variable {H Fi Co Vf κ : Int → Int} {sh : Prop} {f n m k u : Int}
theorem PGg_0 : PGg H Fi Co Vf κ sh f 0 0 k u ↔ False := ⟨fun ⟨j, a, b, _⟩ => by omega, False.elim⟩
theorem PGg_no (h : ¬ sh) : PGg H Fi Co Vf κ sh f n m k u ↔ False := ⟨fun ⟨j, a, b, c, _⟩ => h c.2, False.elim⟩
theorem PGg_n (h : 0 ≤ n) : PGg H Fi Co Vf κ sh f (n + 1) 0 k u ↔ PGg H Fi Co Vf κ sh f n (Co (H n)) k u := by
  constructor
  · rintro ⟨j, a, b, c⟩
    refine ⟨j, a, ?_, c⟩
    rcases b with b | b
    · rcases (show k < n ∨ k = n by omega) with z | z
      · exact Or.inl ⟨b.1, z, b.2.2⟩
      · rw [z] at b; exact Or.inr ⟨z, b.2.2⟩
    · omega
  · rintro ⟨j, a, b, c⟩
    refine ⟨j, a, Or.inl ?_, c⟩
    rcases b with b | b
    · exact ⟨b.1, by omega, b.2.2⟩
    · rw [b.1]; exact ⟨h, by omega, b.2⟩
theorem PGg_f (hq : ¬ (Vf (Fi (H n) + m) = f ∧ sh)) : PGg H Fi Co Vf κ sh f n (m + 1) k u ↔ PGg H Fi Co Vf κ sh f n m k u := by
  constructor
  · rintro ⟨j, a, b, c, e⟩
    rcases b with b | b
    · exact ⟨j, a, Or.inl b, c, e⟩
    · rcases (show j < m ∨ j = m by omega) with z | z
      · exact ⟨j, a, Or.inr ⟨b.1, z⟩, c, e⟩
      · rw [b.1, z] at c; exact absurd c hq
  · rintro ⟨j, a, b, c⟩
    exact ⟨j, a, b.elim Or.inl (fun y => Or.inr ⟨y.1, by omega⟩), c⟩
theorem PGg_t (hm : 0 ≤ m) (hq : Vf (Fi (H n) + m) = f ∧ sh) : PGg H Fi Co Vf κ sh f n (m + 1) k u ↔ (PGg H Fi Co Vf κ sh f n m k u ∨ (k = n + 1 - 1 ∧ u = κ (Fi (H n) + m))) := by
  constructor
  · rintro ⟨j, a, b, c, e⟩
    rcases b with b | b
    · exact Or.inl ⟨j, a, Or.inl b, c, e⟩
    · rcases (show j < m ∨ j = m by omega) with z | z
      · exact Or.inl ⟨j, a, Or.inr ⟨b.1, z⟩, c, e⟩
      · rw [b.1, z] at e; exact Or.inr ⟨by omega, e⟩
  · rintro (⟨j, a, b, c⟩ | ⟨h1, h2⟩)
    · exact ⟨j, a, b.elim Or.inl (fun y => Or.inr ⟨y.1, by omega⟩), c⟩
    · have h1 : k = n := by omega
      exact ⟨m, hm, Or.inr ⟨h1, by omega⟩, by rw [h1]; exact hq, by rw [h1]; exact h2⟩
theorem SCg_s (h : 0 ≤ n) : SCg H Co (n + 1) = SCg H Co n + Co (H n) := smP_t _ _ n (n + 1) h rfl trivial
theorem SCg_le {a b : Int} (h0 : 0 ≤ a) (hb : ∀ k, 0 ≤ k → k < b → 0 ≤ Co (H k)) (h : a ≤ b) : SCg H Co a ≤ SCg H Co b := by
  obtain ⟨n, hn⟩ := Int.eq_ofNat_of_zero_le (show 0 ≤ b - a by omega)
  have hb' : b = a + n := by omega
  subst hb'
  clear hn h
  induction n with
  | zero => exact Int.le_of_eq (by congr 1; omega)
  | succ n ih =>
    have := ih (fun k a b => hb k a (by omega))
    have e := SCg_s (H := H) (Co := Co) (n := a + n) (by omega)
    have c := hb (a + n) (by omega) (by omega)
    rw [show a + ((n + 1 : Nat) : Int) = a + n + 1 by omega, e]; omega
end PGS
theorem gjn_le {E : Int → Int → Prop} {s : GSt} {hit key : Int} : (gjn E s hit key).1 = s.1 ∨ (gjn E s hit key).1 = s.1 + 1 := by
  unfold gjn; split
  · exact Or.inr rfl
  · split <;> exact Or.inl rfl
theorem cn_pos {p : Int → Prop} {k : Int} (h0 : 0 ≤ k) (hp : p k) : ∀ n : Nat, k < (n : Int) → 0 < cn p (n : Int) := by
  intro n
  induction n with
  | zero => intro h; omega
  | succ n ih =>
    intro h
    have e := cn_s p (n : Int) ((n + 1 : Nat) : Int) (by omega) (by omega)
    have i := cn_in p (n : Int)
    rcases (show k < (n : Int) ∨ k = n by omega) with z | z
    · have := ih z
      rcases zb_cs (p (n : Int)) with y | y <;> omega
    · have : zb (p (n : Int)) = 1 := zb_t (z ▸ hp); omega
theorem GIV_c {D : Int → Prop} {E : Int → Int → Prop} {s : GSt} {P : Int → Int → Prop} {n i : Int} (h : GIV D E s P n) (he : EQV D E) (h0 : 0 ≤ i) (h1 : i < s.1) : 1 ≤ s.2.2.1 i ∧ s.2.2.1 i ≤ n := by
  have hD := GIV_D h h0 h1
  obtain ⟨k, z⟩ := h.2.2.1 i h0 h1
  have hk := (h.2.1 k _ z).1
  obtain ⟨nn, hnn⟩ := Int.eq_ofNat_of_zero_le (show 0 ≤ n by omega)
  have c := cn_pos (p := hsP E P (s.2.1 i)) hk.1 ⟨_, z, he.1 _ hD⟩ nn (by omega)
  rw [← hnn, ← (h.2.2.2.2.2 i h0 h1).1] at c
  have d := cn_in (hsP E P (s.2.1 i)) n
  rw [← (h.2.2.2.2.2 i h0 h1).1] at d
  omega
theorem EQV_eq {D : Int → Prop} : EQV D (fun a b => a = b) := ⟨fun _ _ => rfl, fun _ _ _ _ h => h.symm, fun _ _ _ _ _ _ h g => h.trans g⟩
end
section
/-! contracts: printed by tools/mk.py out of s76_groupM.py -/
set_option maxRecDepth 100000
set_option maxHeartbeats 1200000
/-- the model's groups of a field: what is alike, of which value which key, which pairs (hit, key) there are -/
def EMw (σ : Sto) (w a b : Int) : Prop := (w = 0 ∧ odM σ a b = 0) ∨ (w ≠ 0 ∧ a = b)
def DMw (w a : Int) : Prop := w = 0 → 0 ≤ a ∧ a < 24000
def keyV (σ : Sto) (w v : Int) : Int := if w = 0 then σ.I 582 v else fdv (σ.I 583 v) w
def PGM (σ : Sto) (f w n m k u : Int) : Prop := PGg (σ.I 637) (σ.I 595) (σ.I 596) (σ.I 579) (keyV σ w) (σ.I 639 f ≠ 0) f n m k u
noncomputable def SCM (σ : Sto) (n : Int) : Int := SCg (σ.I 637) (σ.I 596) n
theorem EMw_e {σ : Sto} {w : Int} (hz : bd_0_20 σ 587 24000) : EQV (DMw w) (EMw σ w) := by
  have hs : ∀ a, w = 0 → DMw w a → σ.I 587 a ≤ 20 := fun a h q => (hz a (q h).1 (q h).2).2
  have hn := fun a b (h : w = 0) (ha : DMw w a) (hb : DMw w b) => od_neg (σ.I 586) (20 * a) (σ.I 587 a) (σ.I 586) (20 * b) (σ.I 587 b) 1000 0 (by omega) (hs a h ha) (hs b h hb) (by omega)
  have ht := fun a b c (h : w = 0) (ha : DMw w a) (hb : DMw w b) (hc : DMw w c) => od_tr (σ.I 586) (20 * a) (σ.I 587 a) (σ.I 586) (20 * b) (σ.I 587 b) (σ.I 586) (20 * c) (σ.I 587 c) 1000 0 (by omega) (hs a h ha) (hs b h hb) (hs c h hc) (by omega)
  refine ⟨fun a ha => ?_, fun a b ha hb e => ?_, fun a b c ha hb hc e1 e2 => ?_⟩
  · by_cases h : w = 0
    · left; refine ⟨h, ?_⟩; have := hn a a h ha ha; unfold odM; omega
    · right; exact ⟨h, rfl⟩
  · rcases e with e | e
    · left; refine ⟨e.1, ?_⟩; have := hn a b e.1 ha hb; have e2 := e.2; unfold odM at e2 ⊢; omega
    · right; exact ⟨e.1, e.2.symm⟩
  · rcases e1 with e1 | e1
    · rcases e2 with e2 | e2
      · left
        refine ⟨e1.1, ?_⟩
        have h := e1.1
        have n1 := hn a b h ha hb
        have n2 := hn b c h hb hc
        have n3 := hn a c h ha hc
        have t1 := ht a b c h ha hb hc
        have t2 := ht c b a h hc hb ha
        have f1 := e1.2
        have f2 := e2.2
        unfold odM at f1 f2 ⊢
        have t1 := t1 (by omega) (by omega)
        have t2 := t2 (by omega) (by omega)
        omega
      · exact absurd e1.1 e2.1
    · rcases e2 with e2 | e2
      · exact absurd e2.1 e1.1
      · right; exact ⟨e1.1, e1.2.trans e2.2⟩
/-- which of two groups comes first -/
def LMs (σ : Sto) (w : Int) (s : GSt) (i j : Int) : Prop := (w ≠ 0 ∧ s.2.1 i < s.2.1 j) ∨ (w = 0 ∧ ((s.2.2.1 i ≠ s.2.2.1 j ∧ s.2.2.1 j < s.2.2.1 i) ∨ (s.2.2.1 i = s.2.2.1 j ∧ odM σ (s.2.1 i) (s.2.1 j) < 0)))
theorem LMs_swo {σ : Sto} {w n : Int} {s : GSt} (hz : bd_0_20 σ 587 24000) (hD : ∀ i, 0 ≤ i → i < n → DMw w (s.2.1 i)) : SWO (fun x => 0 ≤ x ∧ x < n) (LMs σ w s) := by
  have hs : ∀ i, w = 0 → 0 ≤ i ∧ i < n → σ.I 587 (s.2.1 i) ≤ 20 := fun i h q => (hz _ (hD i q.1 q.2 h).1 (hD i q.1 q.2 h).2).2
  refine ⟨fun a b ha hb h => ?_, fun a b c ha hb hc h1 h2 => ?_⟩
  · by_cases z : w = 0
    · have e := od_neg (σ.I 586) (20 * s.2.1 a) (σ.I 587 (s.2.1 a)) (σ.I 586) (20 * s.2.1 b) (σ.I 587 (s.2.1 b)) 1000 0 (by omega) (hs a z ha) (hs b z hb) (by omega)
      unfold LMs odM at h ⊢
      omega
    · unfold LMs at h ⊢; omega
  · by_cases z : w = 0
    · have e1 := od_tr (σ.I 586) (20 * s.2.1 a) (σ.I 587 (s.2.1 a)) (σ.I 586) (20 * s.2.1 b) (σ.I 587 (s.2.1 b)) (σ.I 586) (20 * s.2.1 c) (σ.I 587 (s.2.1 c)) 1000 0 (by omega) (hs a z ha) (hs b z hb) (hs c z hc) (by omega)
      unfold LMs odM at h1 h2 ⊢
      omega
    · unfold LMs at h1 h2 ⊢; omega
def RWS (τ : Sto) (s : GSt) (n : Int) (p : Int → Int) : Prop := ∀ i, 0 ≤ i → i < n → kyG τ i = s.2.1 (p i) ∧ τ.I 656 i = s.2.2.1 (p i) ∧ τ.I 657 i = s.2.2.2.1 (p i)
def FCT (τ : Sto) (w : Int) : Prop := (w = 0 ∧ τ.I 555 141 = 1) ∨ (w ≠ 0 ∧ τ.I 555 141 = 0)
/-- the groups that have come, sorted below m but for j -/
def GRM (σ τ : Sto) (f w m j : Int) : Prop := ∃ s : GSt, GIV (DMw w) (EMw σ w) s (PGM σ f w (σ.I 555 115) 0) (σ.I 555 115) ∧ s.1 = τ.I 555 135 ∧ SHW s.1 (LMs σ w s) (RWS τ s s.1) True m j
def wsGa (c : Nat) (i : Int) : Prop := (656 ≤ c ∧ c ≤ 660) ∨ (c = 555 ∧ (i = 135 ∨ i = 141))
abbrev KGa (σ τ : Sto) : Prop := Ch wsGa σ τ
theorem KGa_rf {σ : Sto} : KGa σ σ := Ch.rf
theorem KGa_w {σ τ : Sto} {a : Nat} {i v : Int} (e : τ = σ.wI a i v) (h : wsGa a i) : KGa σ τ := by rw [e]; exact Ch.wI Ch.rf h
theorem KGa_of_KGj {σ τ : Sto} (h : KGj σ τ) : KGa σ τ := Ch.mono h (fun c i q => by unfold wsGj at q; unfold wsGa; omega)
theorem KGa_rd {σ τ : Sto} {F : Nat → Int → Int} (r : τ.R = σ.R) (s : τ.sh = σ.sh) (n : τ.n = σ.n) (e : τ.I = F) (h : ∀ c i, ¬ wsGa c i → F c i = σ.I c i) : KGa σ τ := ⟨⟨r, s, n⟩, fun c i q => by rw [e]; exact h c i q⟩
theorem kga {σ τ : Sto} (h : KGa σ τ) {c : Nat} (q : c < 555 ∨ (555 < c ∧ c < 656) ∨ 660 < c) : τ.I c = σ.I c := funext fun i => h.2 c i (by unfold wsGa; omega)
theorem odM_ka {σ τ : Sto} (h : KGa σ τ) : odM τ = odM σ := by
  funext a b; unfold odM; rw [kga h (c := 586) (by decide), kga h (c := 587) (by decide)]
theorem eqM_ka {σ τ : Sto} {w : Int} (h : KGa σ τ) (hf : FCT τ w) : eqM τ = EMw σ w := by
  funext a b; unfold eqM EMw; rw [odM_ka h]
  unfold FCT at hf
  apply propext
  constructor <;> (intro z; omega)
theorem kyG_f {τ : Sto} {w : Int} (hf : FCT τ w) (h : τ.I 555 141 ≠ 0) : kyG τ = τ.I 658 ∧ w = 0 := by
  unfold kyG FCT at *; rw [if_neg h]; exact ⟨rfl, by omega⟩
theorem PGM_0 {σ : Sto} {f w k u : Int} : PGM σ f w 0 0 k u ↔ False := PGg_0
theorem PGM_n {σ : Sto} {f w n k u : Int} (h : 0 ≤ n) : PGM σ f w (n + 1) 0 k u ↔ PGM σ f w n (σ.I 596 (σ.I 637 n)) k u := PGg_n h
theorem PGM_f {σ : Sto} {f w n m k u : Int} (hq : ¬ (σ.I 579 (σ.I 595 (σ.I 637 n) + m) = f ∧ σ.I 639 f ≠ 0)) : PGM σ f w n (m + 1) k u ↔ PGM σ f w n m k u := PGg_f hq
theorem PGM_t {σ : Sto} {f w n m k u : Int} (hm : 0 ≤ m) (hq : σ.I 579 (σ.I 595 (σ.I 637 n) + m) = f ∧ σ.I 639 f ≠ 0) : PGM σ f w n (m + 1) k u ↔ (PGM σ f w n m k u ∨ (k = n + 1 - 1 ∧ u = keyV σ w (σ.I 595 (σ.I 637 n) + m))) := PGg_t hm hq
theorem RWS_bf {σ τ : Sto} {s : GSt} {w n i j : Int} {p : Int → Int} (k : KGa σ τ) (hf : FCT τ w) (h : RWS τ s n p) (hi : 0 ≤ i ∧ i < n) (hj : 0 ≤ j ∧ j < n) : gbM τ i j ↔ LMs σ w s (p i) (p j) := by
  obtain ⟨a1, a2, a3⟩ := h i hi.1 hi.2
  obtain ⟨b1, b2, b3⟩ := h j hj.1 hj.2
  unfold gbM LMs
  rw [odM_ka k, ← a2, ← b2, ← a1, ← b1]
  rcases hf with z | z
  · have e : kyG τ = τ.I 658 := if_neg (by omega)
    rw [e]; constructor <;> (intro y; omega)
  · have e : kyG τ = τ.I 659 := if_pos z.2
    rw [e]; constructor <;> (intro y; omega)
theorem RWS_sw {τ υ : Sto} {s : GSt} {n a b : Int} {p : Int → Int} (h : RWS τ s n p) (ha : 0 ≤ a ∧ a < n) (hb : 0 ≤ b ∧ b < n) (e : υ.I = fun c i => if at2 c i 656 a then τ.I 656 b else if at2 c i 656 b then τ.I 656 a else if at2 c i 657 a then τ.I 657 b else if at2 c i 657 b then τ.I 657 a else if at2 c i 658 a then τ.I 658 b else if at2 c i 658 b then τ.I 658 a else if at2 c i 659 a then τ.I 659 b else if at2 c i 659 b then τ.I 659 a else τ.I c i) : RWS υ s n (swp p a b) := by
  intro i h0 h1
  have ea := h a ha.1 ha.2
  have eb := h b hb.1 hb.2
  have ei := h i h0 h1
  have hc : ∀ c : Nat, (c = 656 ∨ c = 657 ∨ c = 658 ∨ c = 659) → υ.I c = swp (τ.I c) a b := by
    intro c hc; funext i; rw [e]; unfold swp
    rcases hc with h | h | h | h <;> subst h <;> grind
  have hfx : υ.I 555 141 = τ.I 555 141 := (by rw [e]; grind)
  have hk : kyG υ = swp (kyG τ) a b := by
    unfold kyG; rw [hfx]
    by_cases z : τ.I 555 141 = 0
    · rw [if_pos z, if_pos z]; exact hc _ (by decide)
    · rw [if_neg z, if_neg z]; exact hc _ (by decide)
  rw [hk, hc 656 (by decide), hc 657 (by decide)]
  unfold swp
  by_cases z1 : i = a
  · rw [if_pos z1, if_pos z1, if_pos z1, if_pos z1]; exact eb
  · by_cases z2 : i = b
    · rw [if_neg z1, if_pos z2, if_neg z1, if_pos z2, if_neg z1, if_pos z2, if_neg z1, if_pos z2]; exact ea
    · rw [if_neg z1, if_neg z2, if_neg z1, if_neg z2, if_neg z1, if_neg z2, if_neg z1, if_neg z2]; exact ei
theorem SCM_s {σ : Sto} {n : Int} (h : 0 ≤ n) : SCM σ (n + 1) = SCM σ n + σ.I 596 (σ.I 637 n) := SCg_s h
theorem SCM_le {σ : Sto} {a b : Int} (h0 : 0 ≤ a) (hb : ∀ k, 0 ≤ k → k < b → 0 ≤ σ.I 596 (σ.I 637 k)) (h : a ≤ b) : SCM σ a ≤ SCM σ b := SCg_le h0 hb h

theorem sp_X9_groupAll {E : XE} {d : Nat} {σ : Sto} {x1 : Int} {y2 : Int} (hd : 5 ≤ d) (hL : Lay σ)  (p0 : 0 ≤ x1 ∧ x1 < 12) (p1 : 0 ≤ y2 ∧ inL y2) (p2 : 0 ≤ σ.I 555 115 ∧ σ.I 555 115 ≤ 600) (p3 : ∀ k, 0 ≤ k → k < σ.I 555 115 → 0 ≤ σ.I 637 k ∧ σ.I 637 k < 601) (p4 : OB σ 595 596) (p5 : SCM σ (σ.I 555 115) ≤ 6000) (p6 : bd_0_20 σ 587 24000) (p7 : ∀ k j, 0 ≤ k → k < σ.I 555 115 → 0 ≤ j → j < σ.I 596 (σ.I 637 k) → (0 ≤ σ.I 582 (σ.I 595 (σ.I 637 k) + j) ∧ σ.I 582 (σ.I 595 (σ.I 637 k) + j) ≤ 24000) ∧ (y2 = 0 → σ.I 579 (σ.I 595 (σ.I 637 k) + j) = x1 → σ.I 582 (σ.I 595 (σ.I 637 k) + j) < 24000) ∧ inL (σ.I 583 (σ.I 595 (σ.I 637 k) + j))) : CC E mX9_groupAll d [aO 555, aI (x1), aL (y2)] σ (RV (fun τ => (GRM σ τ x1 y2 (τ.I 555 135) (-1)) ∧ (FCT τ y2) ∧ (0 ≤ τ.I 555 135 ∧ τ.I 555 135 ≤ 6000) ∧ (KGa σ τ))) := by sorry
end
section
/-! contracts: printed by tools/mk.py out of s77_facetX.py -/
set_option maxRecDepth 100000
set_option maxHeartbeats 1200000
/-- the program's groups of a field of words -/
def DX (a : Int) : Prop := 0 ≤ a ∧ a < 36500
def PGX (σ : Sto) (κ : Int → Int) (f n m k u : Int) : Prop := PGg (σ.I 189) (σ.I 42) (σ.I 43) (σ.I 26) κ (¬ bt32 (σ.I 102 1) f) f n m k u
noncomputable def SCX (σ : Sto) (n : Int) : Int := SCg (σ.I 189) (σ.I 43) n
theorem SCX_s {σ : Sto} {n : Int} (h : 0 ≤ n) : SCX σ (n + 1) = SCX σ n + σ.I 43 (σ.I 189 n) := SCg_s h
theorem SCX_le {σ : Sto} {a b : Int} (h0 : 0 ≤ a) (hb : ∀ k, 0 ≤ k → k < b → 0 ≤ σ.I 43 (σ.I 189 k)) (h : a ≤ b) : SCX σ a ≤ SCX σ b := SCg_le h0 hb h
def LXs (σ : Sto) (s : GSt) (i j : Int) : Prop := (s.2.2.1 i ≠ s.2.2.1 j ∧ s.2.2.1 j < s.2.2.1 i) ∨ (s.2.2.1 i = s.2.2.1 j ∧ odX σ (s.2.1 i) (s.2.1 j) < 0)
def RWXg (τ : Sto) (s : GSt) (n : Int) (p : Int → Int) : Prop := ∀ i, 0 ≤ i → i < n → τ.I 196 i = s.2.1 (p i) ∧ τ.I 197 i = s.2.2.1 (p i) ∧ τ.I 198 i = s.2.2.2.1 (p i)
def GRX (σ τ : Sto) (f : Int) : Prop := ∃ s : GSt, GIV DX (fun a b => a = b) s (PGX σ (σ.I 33) f (σ.I 0 70) 0) (σ.I 0 70) ∧ s.1 = τ.I 0 79 ∧ ∃ p, PRM s.1 p ∧ RWXg τ s s.1 p ∧ ∀ a b, 0 ≤ a → a < b → b < s.1 → ¬ LXs σ s (p b) (p a)
def wsFx (c : Nat) (i : Int) : Prop := (196 ≤ c ∧ c ≤ 200) ∨ (c = 0 ∧ (i = 79 ∨ i = 80))
abbrev KFx (σ τ : Sto) : Prop := Ch wsFx σ τ
theorem KFx_rf {σ : Sto} : KFx σ σ := Ch.rf
theorem KFx_w {σ τ : Sto} {a : Nat} {i v : Int} (e : τ = σ.wI a i v) (h : wsFx a i) : KFx σ τ := by rw [e]; exact Ch.wI Ch.rf h
theorem KFx_of_KGx {σ τ : Sto} (h : KGx σ τ) : KFx σ τ := Ch.mono h (fun c i q => by unfold wsGx at q; unfold wsFx; omega)
theorem KFx_of_KSg {σ τ : Sto} (h : KSg σ τ) : KFx σ τ := Ch.mono h (fun c i q => by unfold wsSg at q; unfold wsFx; omega)
theorem kfx {σ τ : Sto} (h : KFx σ τ) {c : Nat} (q : c ≠ 0 ∧ (c < 196 ∨ 200 < c)) : τ.I c = σ.I c := funext fun i => h.2 c i (by unfold wsFx; omega)
theorem odX_kf {σ τ : Sto} (h : KFx σ τ) : odX τ = odX σ := by
  funext a b; unfold odX; rw [kfx h (c := 19) (by decide), kfx h (c := 21) (by decide)]
theorem gbX_s {σ τ : Sto} {i j : Int} (h : KFx σ τ) (hw : τ.I 0 80 = 1) : gbX τ i j ↔ LXs σ (gsX τ) i j := by
  unfold gbX LXs; rw [odX_kf h]
  constructor
  · intro z; have z := z.elim (fun y => absurd y.1 (by omega)) (fun y => y.2); exact z
  · intro z; exact Or.inr ⟨by omega, z⟩
/-- the groups below n are struck out -/
def CLRg (τ : Sto) (n : Int) : Prop := ∀ t, 0 ≤ t → t < 36500 → τ.I 199 t = if fsF (fun i => τ.I 196 i = t) 0 (τ.I 0 79) < n then 0 else fsF (fun i => τ.I 196 i = t) 0 (τ.I 0 79) + 1
theorem CLRg_0 {τ : Sto} (h : GOF τ) : CLRg τ 0 := by
  intro t a b
  have z := h t a b
  have y := fsF_in (fun i => τ.I 196 i = t) 0 (τ.I 0 79)
  rw [z]; split <;> omega
theorem CLRg_s {τ υ : Sto} {n : Int} {D : Int → Prop} {P : Int → Int → Prop} {N : Int} (h : CLRg τ n) (hg : GIV D (fun a b => a = b) (gsX τ) P N) (hn : 0 ≤ n ∧ n < τ.I 0 79) (e : υ = τ.wI 199 (τ.I 196 n) 0) : CLRg υ (n + 1) := by
  intro t a b
  have e1 : υ.I 196 = τ.I 196 := wI_diff e (by decide)
  have e2 : υ.I 0 79 = τ.I 0 79 := by rw [wI_diff (c := 0) e (by decide)]
  have e3 : υ.I 199 = up1 (τ.I 199) (τ.I 196 n) 0 := wI_same e
  rw [e1, e2, e3]
  have z := h t a b
  have y := fsF_in (fun i => τ.I 196 i = t) 0 (τ.I 0 79)
  by_cases w : t = τ.I 196 n
  · have f : fsF (fun i => τ.I 196 i = t) 0 (τ.I 0 79) = n := fsF_is hn.1 hn.2 w.symm (fun i i0 i1 q => hg.2.2.2.2.1 i n i0 i1 hn.2 (q.trans w))
    rw [f, if_pos (by omega)]; exact if_pos w
  · have f : fsF (fun i => τ.I 196 i = t) 0 (τ.I 0 79) ≠ n := fun q => by
      rcases y with y | y
      · omega
      · rw [q] at y; exact w y.2.2.symm
    have u : up1 (τ.I 199) (τ.I 196 n) 0 t = τ.I 199 t := if_neg w
    rw [u, z]; split
    · rw [if_pos (by omega)]
    · rw [if_neg (by omega)]
theorem CLRg_e {τ : Sto} (h : CLRg τ (τ.I 0 79)) (h0 : 0 ≤ τ.I 0 79) : ∀ t, 0 ≤ t → t < 36500 → τ.I 199 t = 0 := by
  intro t a b
  have y := fsF_in (fun i => τ.I 196 i = t) 0 (τ.I 0 79)
  rw [h t a b, if_pos (by omega)]

theorem sp_X0_facet {E : XE} {d : Nat} {σ : Sto} {x1 : Int} (hd : 6 ≤ d) (hL : Lay σ)  (p0 : inR x1) (p1 : 0 ≤ σ.I 0 9 ∧ σ.I 0 9 ≤ 12) (p2 : 0 ≤ σ.I 0 70 ∧ σ.I 0 70 ≤ 600) (p3 : ∀ k, 0 ≤ k → k < σ.I 0 70 → 0 ≤ σ.I 189 k ∧ σ.I 189 k < 601) (p4 : OB σ 42 43) (p5 : SCX σ (σ.I 0 70) ≤ 6000) (p6 : bd_0_20 σ 21 36500) (p7 : ∀ t, 0 ≤ t → t < 36500 → σ.I 199 t = 0) (p8 : ∀ k j, 0 ≤ k → k < σ.I 0 70 → 0 ≤ j → j < σ.I 43 (σ.I 189 k) → σ.I 26 (σ.I 42 (σ.I 189 k) + j) = x1 → σ.I 16 x1 = 1 → 0 ≤ σ.I 33 (σ.I 42 (σ.I 189 k) + j) ∧ σ.I 33 (σ.I 42 (σ.I 189 k) + j) < 36500) : CC E mX0_facet d [aO 0, aI (x1)] σ (RVI (fun y τ => ((¬ ((0 ≤ x1 ∧ x1 < σ.I 0 9) ∧ σ.I 16 x1 = (1 : Int)) → y = -1 ∧ τ = σ) ∧ (((0 ≤ x1 ∧ x1 < σ.I 0 9) ∧ σ.I 16 x1 = (1 : Int)) → y = τ.I 0 79 ∧ τ.I 0 80 = 1 ∧ (0 ≤ τ.I 0 79 ∧ τ.I 0 79 ≤ 6000) ∧ GRX σ τ x1)) ∧ (∀ t, 0 ≤ t → t < 36500 → τ.I 199 t = 0) ∧ (KFx σ τ))) := by sorry
end
section
/-! contracts: printed by tools/mk.py out of s78_otherX.py -/
set_option maxRecDepth 100000
set_option maxHeartbeats 1200000
/-- what the leaves that are no texts find -/
noncomputable def vtX (σ : Sto) (o : Nat) (n : Int) : Int := ls (tQ σ (σ.I (o + 8) n) (σ.I (o + 2)) (σ.I (o + 9) n) (min (σ.I (o + 10) n - σ.I (o + 9) n) 20)) (σ.I 18 7)
def oqV (σ : Sto) (o : Nat) (n K V k : Int) : Prop := 0 ≤ vtX σ o n ∧ σ.I (o + 10) n ≠ σ.I (o + 9) n ∧ mkQ σ o (vtX σ o n) K V k
def oqR (σ : Sto) (o : Nat) (n k : Int) : Prop := (σ.I (o + 15) 6 ≤ k ∧ k < σ.I (o + 15) 7) ∧ σ.I (o + 16) k = 1 ∧ exN (fun j => lvX σ o n (σ.I 42 k + j)) (σ.I 43 k)
def oqW (σ : Sto) (o : Nat) (n K V m k : Int) : Prop := exN (fun s => σ.I 20 s = σ.I (o + 8) n ∧ fitX σ o n s ∧ mkQ σ o s K V k) m
def otQ (σ : Sto) (o : Nat) (n K V k : Int) : Prop := (σ.I (o + 3) n = 8 ∧ oqV σ o n K V k) ∨ ((σ.I (o + 3) n = 9 ∨ σ.I (o + 3) n = 10) ∧ oqR σ o n k) ∨ (¬ (8 ≤ σ.I (o + 3) n ∧ σ.I (o + 3) n ≤ 10) ∧ oqW σ o n K V (σ.I 18 7) k)
noncomputable def otS (σ : Sto) (o : Nat) (n K V : Int) : Int := if σ.I (o + 3) n = 8 ∧ 0 ≤ vtX σ o n ∧ σ.I (o + 10) n ≠ σ.I (o + 9) n then lgR (2 * σ.I (o + 17) (σ.I (o + 8) n) + 2) (2 * owX σ (o + 15) (vtX σ o n) K V + 1) else σ.I (o + 22) n
theorem MKD_tr {σ τ υ : Sto} {o : Nat} {n : Int} {P P' : Int → Prop} (h : MKD σ τ o n P) (g : MKD τ υ o n P') (e : τ.I (o + 21) n = σ.I (o + 21) n) : MKD σ υ o n (fun k => P k ∨ P' k) := by
  intro k a b
  have g := g k a b
  rw [e] at g
  rw [g, h k a b]
  rcases zb_cs (P k) with y | y
  · rw [if_pos y.2, if_pos (zb_t (Or.inl y.1))]; split <;> rfl
  · rcases zb_cs (P' k) with z | z
    · rw [if_pos z.2, if_pos (zb_t (Or.inr z.1))]
    · rw [if_neg (by omega), if_neg (by omega), if_neg (by rw [zb_f (fun w => w.elim y.1 z.1)]; decide)]
def wsOt (o : Nat) (r x : Int) (c : Nat) (i : Int) : Prop := (c = o + 23 ∧ 601 * r ≤ i ∧ i < 601 * r + 601) ∨ (c = o + 22 ∧ i = x) ∨ c = 81 ∨ c = o + 30 ∨ (c = o ∧ i = 16)
abbrev KOt (o : Nat) (r x : Int) (σ τ : Sto) : Prop := Ch (wsOt o r x) σ τ
theorem KOt_rf {o : Nat} {r x : Int} {σ : Sto} : KOt o r x σ σ := Ch.rf
theorem KOt_w {o : Nat} {r x : Int} {σ τ : Sto} {a : Nat} {i v : Int} (e : τ = σ.wI a i v) (h : wsOt o r x a i) : KOt o r x σ τ := by rw [e]; exact Ch.wI Ch.rf h
theorem KOt_of_KFd {o : Nat} {r x s : Int} {σ τ : Sto} (h : KFd o s σ τ) (e : s = r) : KOt o r x σ τ := Ch.mono h (fun c i q => Or.inl (e ▸ q))
theorem KOt_of_KXp {o : Nat} {r x : Int} {σ τ : Sto} (h : KXp o σ τ) : KOt o r x σ τ := Ch.mono h (fun c i q => by unfold wsXp at q; unfold wsOt; omega)
theorem KOt_rd {o : Nat} {r x : Int} {σ τ : Sto} {F : Nat → Int → Int} (e1 : τ.R = σ.R) (s : τ.sh = σ.sh) (n : τ.n = σ.n) (e : τ.I = F) (h : ∀ c i, ¬ wsOt o r x c i → F c i = σ.I c i) : KOt o r x σ τ := ⟨⟨e1, s, n⟩, fun c i q => by rw [e]; exact h c i q⟩
theorem kot {o : Nat} {r x : Int} {σ τ : Sto} (h : KOt o r x σ τ) {c : Nat} (q : c ≠ o + 23 ∧ c ≠ o + 22 ∧ c ≠ 81 ∧ c ≠ o + 30 ∧ c ≠ o) : τ.I c = σ.I c := funext fun i => h.2 c i (by unfold wsOt; omega)
section OTK
variable {o : Nat} {r x : Int} {σ τ : Sto}
theorem tkQ_o (h : KOt o r x σ τ) (ho : 86 ≤ o) : tkQ τ = tkQ σ := by funext t k; unfold tkQ; rw [kot h (c := 36) (by omega)]
theorem wkQ_o (h : KOt o r x σ τ) (ho : 86 ≤ o) : wkQ τ = wkQ σ := by funext t k; unfold wkQ; rw [kot h (c := 16) (by omega), kot h (c := 26) (by omega), kot h (c := 33) (by omega)]
theorem isWt_o (h : KOt o r x σ τ) (ho : 86 ≤ o) : isWt τ = isWt σ := by funext t; unfold isWt; rw [kot h (c := 16) (by omega), kot h (c := 20) (by omega)]
theorem PT_o {K : Int} (h : KOt o r x σ τ) (ho : 86 ≤ o) (g : PT σ K) : PT τ K := by
  unfold PT; rw [tkQ_o h ho, isWt_o h ho, kot h (c := 18) (by omega), kot h (c := 22) (by omega), kot h (c := 23) (by omega), kot h (c := 37) (by omega), kot h (c := 36) (by omega)]; exact g
theorem PW_o {V : Int} (h : KOt o r x σ τ) (ho : 86 ≤ o) (g : PW σ V) : PW τ V := by
  unfold PW; rw [wkQ_o h ho, isWt_o h ho, kot h (c := 18) (by omega), kot h (c := 22) (by omega), kot h (c := 23) (by omega), kot h (c := 34) (by omega), kot h (c := 33) (by omega), kot h (c := 16) (by omega), kot h (c := 26) (by omega)]; exact g
theorem OBV_o {K V : Int} (h : KOt o r x σ τ) (ho : 86 ≤ o) (g : OBV σ K V) : OBV τ K V := by
  unfold OBV; rw [kot h (c := 38) (by omega), kot h (c := 27) (by omega)]; exact g
theorem DRV_o (h : KOt o r x σ τ) (ho : 86 ≤ o) (g : DRV σ) : DRV τ := by
  unfold DRV; rw [kot h (c := 0) (by omega), kot h (c := 26) (by omega), kot h (c := 31) (by omega), kot h (c := 32) (by omega)]; exact g
theorem mkQ_o (h : KOt o r x σ τ) (ho : 86 ≤ o) : mkQ τ o = mkQ σ o := by
  funext t K V k
  unfold mkQ sn obT dhX vhX
  rw [tkQ_o h ho, wkQ_o h ho, isWt_o h ho, kot h (c := o + 15) (by omega), kot h (c := o + 15 + 1) (by omega), kot h (c := 38) (by omega), kot h (c := 27) (by omega), kot h (c := 0) (by omega), kot h (c := 26) (by omega), kot h (c := 16) (by omega), kot h (c := 33) (by omega), kot h (c := 31) (by omega), kot h (c := 36) (by omega), kot h (c := 32) (by omega)]
theorem owX_o (h : KOt o r x σ τ) (ho : 86 ≤ o) : owX τ (o + 15) = owX σ (o + 15) := by
  funext t K V
  unfold owX
  rw [show sn τ (o + 15) = sn σ (o + 15) from funext fun k => by unfold sn; rw [kot h (c := o + 15 + 1) (by omega)], show obT τ = obT σ from funext fun k => by unfold obT; rw [kot h (c := 38) (by omega), kot h (c := 27) (by omega)], tkQ_o h ho, wkQ_o h ho, kot h (c := 16) (by omega), kot h (c := 20) (by omega), kot h (c := 27) (by omega)]
theorem anC_o (h : KOt o r x σ τ) : anC τ = anC σ := by funext k; unfold anC; rw [h.1.1]
theorem fitX_o (h : KOt o r x σ τ) (ho : 86 ≤ o ∧ o ≤ 160) (n : Int) (hA : σ.I 16 (σ.I (o + 8) n) = 0 → 675 ≤ anC σ (σ.I 17 (σ.I (o + 8) n))) (t : Int) : fitX τ o n t ↔ fitX σ o n t := by
  have e : ptX τ o n = ptX σ o n := by
    funext k
    unfold ptX
    rw [anC_o h, kot h (c := 16) (by omega), kot h (c := o + 8) (by omega), kot h (c := 17) (by omega), kot h (c := o + 2) (by omega), kot h (c := o + 9) (by omega)]
    by_cases z : σ.I 16 (σ.I (o + 8) n) = 0
    · rw [kot h (c := anC σ (σ.I 17 (σ.I (o + 8) n))) (by have := hA z; omega)]
    · rw [if_neg (fun y => z y.1), if_neg (fun y => z y.1)]
  unfold fitX
  rw [e, kot h (c := o + 3) (by omega), kot h (c := o + 10) (by omega), kot h (c := o + 9) (by omega), kot h (c := o + 11) (by omega), kot h (c := 19) (by omega), kot h (c := 21) (by omega)]
end OTK
/-- objects of a world lie within the values -/
def WOX (σ : Sto) (o : Nat) : Prop := ∀ k, 0 ≤ k → k < σ.I o 7 → σ.I (o + 1) k = 1 → σ.I 42 k + σ.I 43 k ≤ σ.I 0 20
theorem KFd_o {o : Nat} {r x : Int} {σ τ : Sto} (h : KFd o r σ τ) : KOt o r x σ τ := KOt_of_KFd h rfl

theorem sp_X5_others {E : XE} {d : Nat} {σ : Sto} {K : Int} {V : Int} {o0 : Nat} {x1 : Int} (hd : 4 ≤ d) (hL : Lay σ) (ho0 : At5 σ o0) (p0 : o0 = 87 ∨ o0 = 121 ∨ o0 = 155) (p1 : 0 ≤ x1 ∧ x1 < 200) (p2 : bd_0_59 σ (o0 + 21) 200) (p3 : TC σ) (p4 : 0 ≤ σ.I 18 7 ∧ σ.I 18 7 < 36500) (p5 : ∀ s, 0 ≤ s → s < σ.I 18 7 → 0 ≤ σ.I 20 s ∧ σ.I 20 s < 12) (p6 : PT σ K) (p7 : PW σ V) (p8 : OBV σ K V) (p9 : DRV σ) (p10 : 0 ≤ σ.I 0 39 ∧ σ.I 0 39 < 601) (p11 : bd_0_20 σ 21 36500) (p12 : AN σ) (p13 : 0 ≤ σ.I (o0 + 8) x1 ∧ σ.I (o0 + 8) x1 < 12) (p14 : (σ.I (o0 + 3) x1) = 8 → 0 ≤ σ.I (o0 + 9) x1 ∧ σ.I (o0 + 9) x1 ≤ σ.I (o0 + 10) x1 ∧ σ.I (o0 + 10) x1 ≤ 400) (p15 : 11 ≤ (σ.I (o0 + 3) x1) → TNX σ o0 x1) (p16 : 8 ≤ (σ.I (o0 + 3) x1) ∧ (σ.I (o0 + 3) x1) ≤ 12) (p17 : (σ.I (o0 + 3) x1) = 8 → 0 ≤ owX σ (o0 + 15) (vtX σ o0 x1) K V ∧ owX σ (o0 + 15) (vtX σ o0 x1) K V ≤ σ.I (o0 + 17) (σ.I (o0 + 8) x1) ∧ σ.I (o0 + 17) (σ.I (o0 + 8) x1) ≤ 601) (p18 : 0 ≤ σ.I (o0 + 15) 6 ∧ σ.I (o0 + 15) 6 ≤ σ.I (o0 + 15) 7 ∧ σ.I (o0 + 15) 7 ≤ 601) (p19 : OB σ 42 43) (p20 : (σ.I (o0 + 3) x1) = 10 → (-1000000000 ≤ σ.I (o0 + 12) x1 ∧ σ.I (o0 + 12) x1 ≤ 1000000000) ∧ (-1000000000 ≤ σ.I (o0 + 13) x1 ∧ σ.I (o0 + 13) x1 ≤ 1000000000) ∧ (0 ≤ σ.I (o0 + 14) x1 ∧ σ.I (o0 + 14) x1 ≤ 1000000000)) (p21 : (σ.I (o0 + 3) x1) = 10 → PTX σ (σ.I (o0 + 8) x1)) (p22 : WOX σ (o0 + 15)) : CC E mX5_others d [aO o0, aI (x1)] σ (RV (fun τ => (MKD σ τ o0 x1 (otQ σ o0 x1 K V)) ∧ (τ.I (o0 + 22) x1 = otS σ o0 x1 K V) ∧ (KOt o0 (σ.I (o0 + 21) x1) x1 σ τ))) := by sorry
end
section
/-! contracts: printed by tools/mk.py out of s81_histX.py -/
set_option maxRecDepth 100000
set_option maxHeartbeats 1200000
/-- sorted rows are told through: equal quotients become one group -/
def SRL (G K : Int → Int) (N : Int) : Prop := ∀ r t, 0 ≤ r → r < t → t < N → G r < G t ∨ (G r = G t ∧ K r ≤ K t)
def RPR (G K : Int → Int) (x k u : Int) : Prop := ∃ r, 0 ≤ r ∧ r < x ∧ K r = k ∧ G r = u
def HGI (G K : Int → Int) (a b c l : Int → Int) (n x H : Int) : Prop := ∃ s : GSt, GIV (fun _ => True) (fun a b => a = b) s (RPR G K x) H ∧ s.1 = n ∧ (∀ i, 0 ≤ i → i < n → a i = s.2.1 i ∧ b i = s.2.2.1 i ∧ c i = s.2.2.2.1 i ∧ l i = s.2.2.2.2 i) ∧ (∀ i j, 0 ≤ i → i < j → j < n → s.2.1 i < s.2.1 j) ∧ (0 < x → 0 < n ∧ s.2.1 (n - 1) = G (x - 1)) ∧ 0 ≤ n ∧ n ≤ x
theorem GIV_em {D : Int → Prop} {E : Int → Int → Prop} {s : GSt} {P : Int → Int → Prop} {n : Int} (h : s.1 = 0) (hP : ∀ k u, ¬ P k u) : GIV D E s P n := ⟨by omega, fun k u z => absurd z (hP k u), fun i a b => by omega, fun k u z => absurd z (hP k u), fun i j a b c => by omega, fun i a b => by omega⟩
section HIS
variable {G K a b c l : Int → Int} {n x H N : Int}
theorem RPR_s (hx : 0 ≤ x) (k u : Int) : RPR G K (x + 1) k u ↔ (RPR G K x k u ∨ (k = K x ∧ u = G x)) := by
  constructor
  · rintro ⟨r, r0, r1, r2, r3⟩
    rcases (show r < x ∨ r = x by omega) with z | z
    · exact Or.inl ⟨r, r0, z, r2, r3⟩
    · rw [z] at r2 r3; exact Or.inr ⟨r2.symm, r3.symm⟩
  · rintro (⟨r, r0, r1, r2⟩ | z)
    · exact ⟨r, r0, by omega, r2⟩
    · exact ⟨x, hx, by omega, z.1.symm, z.2.symm⟩
theorem HGI_0 : HGI G K a b c l 0 0 H := ⟨(0, a, b, c, l), GIV_em rfl (fun k u ⟨r, r0, r1, _⟩ => by omega), rfl, fun i h0 h1 => by omega, fun i j h0 h1 h2 => by omega, fun h => by omega, by omega, by omega⟩
theorem HGI_hm (hS : SRL G K N) (hx : 0 ≤ x ∧ x < N) : ∀ k v, RPR G K x k v → v = G x → k ≤ K x := by
  rintro k v ⟨r, r0, r1, r2, r3⟩ e
  rcases hS r x r0 r1 hx.2 with z | z <;> omega
theorem HGI_ix {s : GSt} (h1 : s.1 = n) (hs : ∀ i j, 0 ≤ i → i < j → j < n → s.2.1 i < s.2.1 j) (hn : 0 < n) (e : s.2.1 (n - 1) = G x) : gix (fun a b => a = b) s (G x) = n - 1 := gix_at (by omega) (by omega) e (fun i i0 i1 z => by have := hs i (n - 1) i0 i1 (by omega); omega)
theorem HGI_old (h : HGI G K a b c l n x H) (hS : SRL G K N) (hx : 0 ≤ x ∧ x < N) (hK : 0 ≤ K x ∧ K x < H) (hn : 0 < n) (e : a (n - 1) = G x) (hl : l (n - 1) = K x) : HGI G K a b c l n (x + 1) H := by
  obtain ⟨s, g, h1, h2, h3, h4, h5, h6⟩ := h
  obtain ⟨q1, q2, q3, q4⟩ := h2 (n - 1) (by omega) (by omega)
  have ix := HGI_ix h1 h3 hn (q1.symm.trans e)
  have g2 := GIV_addg (u := G x) (h := K x) g EQV_eq hK trivial (HGI_hm hS hx)
  rw [gjn_old ix (by omega) (q4.symm.trans hl)] at g2
  exact ⟨s, GIV_iff g2 (RPR_s hx.1), h1, h2, h3, fun _ => ⟨hn, by rw [← q1, e]; congr 1; omega⟩, h5, by omega⟩
theorem HGI_more (h : HGI G K a b c l n x H) (hS : SRL G K N) (hx : 0 ≤ x ∧ x < N) (hK : 0 ≤ K x ∧ K x < H) (hn : 0 < n) (e : a (n - 1) = G x) (hl : l (n - 1) ≠ K x) : HGI G K a (up1 b (n - 1) (b (n - 1) + 1)) c (up1 l (n - 1) (K x)) n (x + 1) H := by
  obtain ⟨s, g, h1, h2, h3, h4, h5, h6⟩ := h
  obtain ⟨q1, q2, q3, q4⟩ := h2 (n - 1) (by omega) (by omega)
  have ix := HGI_ix h1 h3 hn (q1.symm.trans e)
  have g2 := GIV_addg (u := G x) (h := K x) g EQV_eq hK trivial (HGI_hm hS hx)
  rw [gjn_more ix (by omega) (by rw [← q4]; exact hl)] at g2
  refine ⟨_, GIV_iff g2 (RPR_s hx.1), h1, fun i i0 i1 => ?_, h3, fun _ => ⟨hn, ?_⟩, h5, by omega⟩
  · obtain ⟨r1, r2, r3, r4⟩ := h2 i i0 i1
    show a i = s.2.1 i ∧ up1 b (n - 1) (b (n - 1) + 1) i = up1 s.2.2.1 (n - 1) (s.2.2.1 (n - 1) + 1) i ∧ c i = s.2.2.2.1 i ∧ up1 l (n - 1) (K x) i = up1 s.2.2.2.2 (n - 1) (K x) i
    unfold up1
    rw [q2]
    refine ⟨r1, ?_, r3, ?_⟩
    · split
      · rfl
      · exact r2
    · split
      · rfl
      · exact r4
  · show s.2.1 (n - 1) = G (x + 1 - 1)
    rw [← q1, e]; congr 1; omega
theorem HGI_new (h : HGI G K a b c l n x H) (hS : SRL G K N) (hx : 0 ≤ x ∧ x < N) (hK : 0 ≤ K x ∧ K x < H) (e : 0 < n → a (n - 1) ≠ G x) : HGI G K (up1 a n (G x)) (up1 b n 1) (up1 c n (K x)) (up1 l n (K x)) (n + 1) (x + 1) H := by
  obtain ⟨s, g, h1, h2, h3, h4, h5, h6⟩ := h
  have hlt : ∀ i, 0 ≤ i → i < n → s.2.1 i < G x := by
    intro i i0 i1
    have hx0 : 0 < x := by omega
    obtain ⟨z1, z2⟩ := h4 hx0
    have q1 := (h2 (n - 1) (by omega) (by omega)).1
    have e := e z1
    rw [q1, z2] at e
    have w : s.2.1 i ≤ G (x - 1) := by
      rcases (show i < n - 1 ∨ i = n - 1 by omega) with y | y
      · have := h3 i (n - 1) i0 y (by omega); omega
      · rw [y, z2]; exact Int.le_refl _
    rcases hS (x - 1) x (by omega) (by omega) hx.2 with y | y <;> omega
  have ix : gix (fun a b => a = b) s (G x) = -1 := gix_no (fun i i0 i1 z => by have := hlt i i0 (by omega); omega)
  have g2 := GIV_addg (u := G x) (h := K x) g EQV_eq hK trivial (HGI_hm hS hx)
  rw [gjn_new ix, h1] at g2
  refine ⟨_, GIV_iff g2 (RPR_s hx.1), rfl, fun i i0 i1 => ?_, fun i j i0 ij j1 => ?_, fun _ => ⟨by omega, ?_⟩, by omega, by omega⟩
  · show up1 a n (G x) i = up1 s.2.1 n (G x) i ∧ up1 b n 1 i = up1 s.2.2.1 n 1 i ∧ up1 c n (K x) i = up1 s.2.2.2.1 n (K x) i ∧ up1 l n (K x) i = up1 s.2.2.2.2 n (K x) i
    unfold up1
    by_cases z : i = n
    · rw [if_pos z, if_pos z, if_pos z, if_pos z, if_pos z, if_pos z, if_pos z, if_pos z]; exact ⟨rfl, rfl, rfl, rfl⟩
    · rw [if_neg z, if_neg z, if_neg z, if_neg z, if_neg z, if_neg z, if_neg z, if_neg z]; exact h2 i i0 (by omega)
  · show up1 s.2.1 n (G x) i < up1 s.2.1 n (G x) j
    unfold up1
    rw [if_neg (by omega)]
    by_cases z : j = n
    · rw [if_pos z]; exact hlt i i0 (by omega)
    · rw [if_neg z]; exact h3 i j i0 ij (by omega)
  · show up1 s.2.1 n (G x) (n + 1 - 1) = G (x + 1 - 1)
    unfold up1
    rw [if_pos (by omega)]; congr 1; omega
end HIS
/-- the pairs that have come are the rows -/
def ROWg (P : Int → Int → Prop) (G K : Int → Int) (N : Int) : Prop := ∀ k u, P k u ↔ RPR G K N k u
theorem ROWg_p {P : Int → Int → Prop} {G K G' K' : Int → Int} {N : Int} {p : Int → Int} (h : ROWg P G K N) (h0 : 0 ≤ N) (hp : PRM N p) (e : ∀ i, 0 ≤ i → i < N → G' i = G (p i) ∧ K' i = K (p i)) : ROWg P G' K' N := by
  obtain ⟨m, hm⟩ := Int.eq_ofNat_of_zero_le h0
  intro k u
  rw [h k u]
  constructor
  · rintro ⟨r, r0, r1, r2, r3⟩
    rw [hm] at hp r1
    obtain ⟨i, i0, i1, i2⟩ := PRM_on hp r r0 r1
    have := e i i0 (by omega)
    exact ⟨i, i0, by omega, by rw [this.2, i2]; exact r2, by rw [this.1, i2]; exact r3⟩
  · rintro ⟨r, r0, r1, r2, r3⟩
    have := e r r0 r1
    have q := hp.1 r r0 r1
    exact ⟨p r, q.1, q.2, by rw [← this.2]; exact r2, by rw [← this.1]; exact r3⟩
theorem ROWg_s {P Q : Int → Int → Prop} {G K : Int → Int} {N k0 u0 : Int} (h : ROWg P G K N) (h0 : 0 ≤ N) (e : ∀ k u, Q k u ↔ (P k u ∨ (k = k0 ∧ u = u0))) : ROWg Q (up1 G N u0) (up1 K N k0) (N + 1) := by
  intro k u
  rw [e k u, RPR_s h0, h k u]
  have e1 : up1 K N k0 N = k0 := if_pos rfl
  have e2 : up1 G N u0 N = u0 := if_pos rfl
  rw [e1, e2]
  refine or_congr ⟨fun ⟨r, r0, r1, r2, r3⟩ => ⟨r, r0, r1, ?_, ?_⟩, fun ⟨r, r0, r1, r2, r3⟩ => ⟨r, r0, r1, ?_, ?_⟩⟩ Iff.rfl
  · rw [show up1 K N k0 r = K r from if_neg (by omega)]; exact r2
  · rw [show up1 G N u0 r = G r from if_neg (by omega)]; exact r3
  · rw [show up1 K N k0 r = K r from if_neg (by omega)] at r2; exact r2
  · rw [show up1 G N u0 r = G r from if_neg (by omega)] at r3; exact r3
def HSX (σ τ : Sto) (f w : Int) : Prop := ∃ s : GSt, GIV (fun _ => True) (fun a b => a = b) s (PGX σ (fun v => fdv (σ.I 30 v) w) f (σ.I 0 70) 0) (σ.I 0 70) ∧ s.1 = τ.I 0 79 ∧ RWXg τ s s.1 (fun i => i) ∧ ∀ i j, 0 ≤ i → i < j → j < s.1 → s.2.1 i < s.2.1 j
/-- the rows are told through as far as x -/
def HTX (σ τ : Sto) (f w n x : Int) : Prop := ∃ G K : Int → Int, ROWg (PGX σ (fun v => fdv (σ.I 30 v) w) f (σ.I 0 70) 0) G K (τ.I 0 79) ∧ SRL G K (τ.I 0 79) ∧ (∀ r, 0 ≤ r → r < τ.I 0 79 → 0 ≤ K r ∧ K r < σ.I 0 70) ∧ (∀ r, x ≤ r → r < τ.I 0 79 → τ.I 196 r = G r ∧ τ.I 198 r = K r) ∧ HGI G K (τ.I 196) (τ.I 197) (τ.I 198) (τ.I 200) n x (σ.I 0 70)

section HTS
variable {σ τ υ : Sto} {f w n x : Int}
theorem HTX_b (h : HTX σ τ f w n x) : (0 ≤ n ∧ n ≤ x) ∧ (0 < n → 1 ≤ τ.I 197 (n - 1) ∧ τ.I 197 (n - 1) ≤ σ.I 0 70) := by
  obtain ⟨G, K, a1, a2, a3, a4, s, g, h1, h2, h3, h4, h5, h6⟩ := h
  refine ⟨⟨h5, h6⟩, fun z => ?_⟩
  rw [(h2 (n - 1) (by omega) (by omega)).2.1]
  exact GIV_c g EQV_eq (by omega) (by omega)
theorem HTX_old (h : HTX σ τ f w n x) (hx : 0 ≤ x ∧ x < τ.I 0 79) (hn : 0 < n) (e : τ.I 196 (n - 1) = τ.I 196 x) (hl : τ.I 200 (n - 1) = τ.I 198 x) : HTX σ τ f w n (x + 1) := by
  obtain ⟨G, K, a1, a2, a3, a4, a5⟩ := h
  have q := a4 x (Int.le_refl _) hx.2
  exact ⟨G, K, a1, a2, a3, fun r r0 r1 => a4 r (by omega) r1, HGI_old a5 a2 hx (a3 x hx.1 hx.2) hn (e.trans q.1) (hl.trans q.2)⟩
theorem HTX_more (h : HTX σ τ f w n x) (hx : 0 ≤ x ∧ x < τ.I 0 79) (hn : 0 < n) (e : τ.I 196 (n - 1) = τ.I 196 x) (hl : τ.I 200 (n - 1) ≠ τ.I 198 x) (e0 : υ.I 0 79 = τ.I 0 79) (e1 : υ.I 196 = τ.I 196) (e2 : υ.I 198 = τ.I 198) (e3 : υ.I 197 = up1 (τ.I 197) (n - 1) (τ.I 197 (n - 1) + 1)) (e4 : υ.I 200 = up1 (τ.I 200) (n - 1) (τ.I 198 x)) : HTX σ υ f w n (x + 1) := by
  obtain ⟨G, K, a1, a2, a3, a4, a5⟩ := h
  have q := a4 x (Int.le_refl _) hx.2
  unfold HTX
  rw [e0, e1, e2, e3, e4]
  refine ⟨G, K, a1, a2, a3, fun r r0 r1 => a4 r (by omega) r1, ?_⟩
  rw [q.2] at hl ⊢
  exact HGI_more a5 a2 hx (a3 x hx.1 hx.2) hn (e.trans q.1) hl
theorem HTX_new (h : HTX σ τ f w n x) (hx : 0 ≤ x ∧ x < τ.I 0 79) (e : 0 < n → τ.I 196 (n - 1) ≠ τ.I 196 x) (e0 : υ.I 0 79 = τ.I 0 79) (e1 : υ.I 196 = up1 (τ.I 196) n (τ.I 196 x)) (e2 : υ.I 198 = up1 (τ.I 198) n (τ.I 198 x)) (e3 : υ.I 197 = up1 (τ.I 197) n 1) (e4 : υ.I 200 = up1 (τ.I 200) n (τ.I 198 x)) : HTX σ υ f w (n + 1) (x + 1) := by
  have hb := (HTX_b h).1
  obtain ⟨G, K, a1, a2, a3, a4, a5⟩ := h
  have q := a4 x (Int.le_refl _) hx.2
  unfold HTX
  rw [e0, e1, e2, e3, e4]
  rw [q.1] at e ⊢
  rw [q.2]
  refine ⟨G, K, a1, a2, a3, fun r r0 r1 => ?_, HGI_new a5 a2 hx (a3 x hx.1 hx.2) e⟩
  rw [show up1 (τ.I 196) n (G x) r = τ.I 196 r from if_neg (by omega), show up1 (τ.I 198) n (K x) r = τ.I 198 r from if_neg (by omega)]
  exact a4 r (by omega) r1
theorem HTX_e (h : HTX σ τ f w n x) (hx : x = τ.I 0 79) (e0 : υ.I 0 79 = n) (e1 : υ.I 196 = τ.I 196) (e2 : υ.I 198 = τ.I 198) (e3 : υ.I 197 = τ.I 197) : HSX σ υ f w := by
  obtain ⟨G, K, a1, a2, a3, a4, s, g, h1, h2, h3, h4, h5, h6⟩ := h
  rw [← hx] at a1
  refine ⟨s, GIV_iff g a1, h1.trans e0.symm, fun i i0 i1 => ?_, fun i j i0 ij j1 => h3 i j i0 ij (by omega)⟩
  rw [e1, e2, e3]
  have q := h2 i i0 (by omega)
  exact ⟨q.1, q.2.1, q.2.2.1⟩
theorem HTX_0 {p : Int → Int} (hR : ROWg (PGX σ (fun v => fdv (σ.I 30 v) w) f (σ.I 0 70) 0) (τ.I 196) (τ.I 198) (τ.I 0 79)) (h0 : 0 ≤ τ.I 0 79) (hw : τ.I 0 80 = 0) (hp : PRM (τ.I 0 79) p) (hg : RWG τ υ (τ.I 0 79) p) (hs : ∀ a b, 0 ≤ a → a < b → b < τ.I 0 79 → ¬ gbX τ (p b) (p a)) (e : υ.I 0 79 = τ.I 0 79) : HTX σ υ f w 0 0 := by
  unfold HTX
  rw [e]
  have hR2 : ROWg (PGX σ (fun v => fdv (σ.I 30 v) w) f (σ.I 0 70) 0) (υ.I 196) (υ.I 198) (τ.I 0 79) := ROWg_p hR h0 hp (fun i a b => ⟨(hg i a b).1, (hg i a b).2.2⟩)
  refine ⟨υ.I 196, υ.I 198, hR2, fun r t r0 rt tN => ?_, fun r r0 r1 => ?_, fun r _ _ => ⟨rfl, rfl⟩, HGI_0⟩
  · have z := hs r t r0 rt tN
    have a := hg r r0 (by omega)
    have b := hg t (by omega) tN
    unfold gbX at z
    omega
  · obtain ⟨j, j0, j1, _⟩ := (hR2 (υ.I 198 r) (υ.I 196 r)).mpr ⟨r, r0, r1, rfl, rfl⟩
    omega
end HTS

theorem sp_X0_histogram {E : XE} {d : Nat} {σ : Sto} {x1 : Int} {y2 : Int} (hd : 6 ≤ d) (hL : Lay σ)  (p0 : inR x1) (p1 : inL y2) (p2 : 0 ≤ σ.I 0 9 ∧ σ.I 0 9 ≤ 12) (p3 : 0 ≤ σ.I 0 70 ∧ σ.I 0 70 ≤ 600) (p4 : ∀ k, 0 ≤ k → k < σ.I 0 70 → 0 ≤ σ.I 189 k ∧ σ.I 189 k < 601) (p5 : OB σ 42 43) (p6 : SCX σ (σ.I 0 70) ≤ 6000) (p7 : bd_0_20 σ 21 36500) (p8 : ∀ v, 0 ≤ v → v < 6000 → inL (σ.I 30 v)) : CC E mX0_histogram d [aO 0, aI (x1), aL (y2)] σ (RVI (fun y τ => ((¬ (((0 ≤ x1 ∧ x1 < σ.I 0 9) ∧ σ.I 16 x1 = (2 : Int)) ∧ 1 ≤ y2) → y = -1 ∧ τ = σ) ∧ ((((0 ≤ x1 ∧ x1 < σ.I 0 9) ∧ σ.I 16 x1 = (2 : Int)) ∧ 1 ≤ y2) → y = τ.I 0 79 ∧ τ.I 0 80 = 0 ∧ (0 ≤ τ.I 0 79 ∧ τ.I 0 79 ≤ 6000) ∧ HSX σ τ x1 y2)) ∧ (τ.I 199 = σ.I 199) ∧ (KFx σ τ))) := by sorry
end
section
/-! contracts: printed by tools/mk.py out of s82_grM.py -/
set_option maxRecDepth 100000
set_option maxHeartbeats 1200000
theorem sp_X9_facet {E : XE} {d : Nat} {σ : Sto} {x1 : Int} (hd : 6 ≤ d) (hL : Lay σ)  (p0 : inR x1) (p1 : 0 ≤ σ.I 555 27 ∧ σ.I 555 27 ≤ 12) (p2 : 0 ≤ σ.I 555 115 ∧ σ.I 555 115 ≤ 600) (p3 : ∀ k, 0 ≤ k → k < σ.I 555 115 → 0 ≤ σ.I 637 k ∧ σ.I 637 k < 601) (p4 : OB σ 595 596) (p5 : SCM σ (σ.I 555 115) ≤ 6000) (p6 : bd_0_20 σ 587 24000) (p7 : ∀ k j, 0 ≤ k → k < σ.I 555 115 → 0 ≤ j → j < σ.I 596 (σ.I 637 k) → (0 ≤ σ.I 582 (σ.I 595 (σ.I 637 k) + j) ∧ σ.I 582 (σ.I 595 (σ.I 637 k) + j) ≤ 24000) ∧ (σ.I 577 x1 = 1 → σ.I 579 (σ.I 595 (σ.I 637 k) + j) = x1 → σ.I 582 (σ.I 595 (σ.I 637 k) + j) < 24000) ∧ inL (σ.I 583 (σ.I 595 (σ.I 637 k) + j))) : CC E mX9_facet d [aO 555, aI (x1)] σ (RVI (fun y τ => ((¬ ((0 ≤ x1 ∧ x1 < σ.I 555 27) ∧ σ.I 577 x1 = (1 : Int)) → y = -1 ∧ τ = σ) ∧ (((0 ≤ x1 ∧ x1 < σ.I 555 27) ∧ σ.I 577 x1 = (1 : Int)) → y = τ.I 555 135 ∧ GRM σ τ x1 0 (τ.I 555 135) (-1) ∧ FCT τ 0 ∧ (0 ≤ τ.I 555 135 ∧ τ.I 555 135 ≤ 6000))) ∧ (KGa σ τ))) := by sorry
theorem sp_X9_histogram {E : XE} {d : Nat} {σ : Sto} {x1 : Int} {y2 : Int} (hd : 6 ≤ d) (hL : Lay σ)  (p0 : inR x1) (p1 : 0 ≤ σ.I 555 27 ∧ σ.I 555 27 ≤ 12) (p2 : 0 ≤ σ.I 555 115 ∧ σ.I 555 115 ≤ 600) (p3 : ∀ k, 0 ≤ k → k < σ.I 555 115 → 0 ≤ σ.I 637 k ∧ σ.I 637 k < 601) (p4 : OB σ 595 596) (p5 : SCM σ (σ.I 555 115) ≤ 6000) (p6 : bd_0_20 σ 587 24000) (p7 : ∀ k j, 0 ≤ k → k < σ.I 555 115 → 0 ≤ j → j < σ.I 596 (σ.I 637 k) → (0 ≤ σ.I 582 (σ.I 595 (σ.I 637 k) + j) ∧ σ.I 582 (σ.I 595 (σ.I 637 k) + j) ≤ 24000) ∧ (σ.I 577 x1 = 1 → σ.I 579 (σ.I 595 (σ.I 637 k) + j) = x1 → σ.I 582 (σ.I 595 (σ.I 637 k) + j) < 24000) ∧ inL (σ.I 583 (σ.I 595 (σ.I 637 k) + j))) (p8 : inL y2) : CC E mX9_histogram d [aO 555, aI (x1), aL (y2)] σ (RVI (fun y τ => ((¬ (((0 ≤ x1 ∧ x1 < σ.I 555 27) ∧ σ.I 577 x1 = (2 : Int)) ∧ 1 ≤ y2) → y = -1 ∧ τ = σ) ∧ ((((0 ≤ x1 ∧ x1 < σ.I 555 27) ∧ σ.I 577 x1 = (2 : Int)) ∧ 1 ≤ y2) → y = τ.I 555 135 ∧ GRM σ τ x1 y2 (τ.I 555 135) (-1) ∧ FCT τ y2 ∧ (0 ≤ τ.I 555 135 ∧ τ.I 555 135 ≤ 6000))) ∧ (KGa σ τ))) := by sorry
end
section
/-! contracts: printed by tools/mk.py out of s84_score.py -/
set_option maxRecDepth 100000
set_option maxHeartbeats 1200000
/-- what is known of nodes: nothing, or what they are worth with their boosts -/
def SNX (σ : Sto) (o : Nat) (V : Int → Int → Int) : Prop := ∀ x k, 0 ≤ x → x < σ.I (o + 1) 2 → 0 ≤ k → k < 601 → σ.I (o + 29) (601 * x + k) = -2 ∨ σ.I (o + 29) (601 * x + k) = scW (tabS (GX σ o)) V x k
/-- who is seen -/
def snW (σ : Sto) (o : Nat) (k : Int) : Prop := k < σ.I (o + 15) 7 ∧ σ.I (o + 16) k = 1
/-- what a leaf's worth stands on -/
def LQX (σ : Sto) (o : Nat) (x : Int) : Prop := (0 ≤ σ.I (o + 8) x ∧ σ.I (o + 8) x < 12) ∧ (0 ≤ σ.I (o + 22) x ∧ σ.I (o + 22) x ≤ 100000) ∧ σ.I (o + 18) (σ.I (o + 8) x) ≤ 3700000 ∧ (0 ≤ σ.I (o + 17) (σ.I (o + 8) x) ∧ σ.I (o + 17) (σ.I (o + 8) x) ≤ 601) ∧
  ∀ k, 0 ≤ k → k < 601 → snW σ o k → (0 ≤ σ.I (o + 23) (601 * σ.I (o + 21) x + k) ∧ σ.I (o + 23) (601 * σ.I (o + 21) x + k) ≤ 12000) ∧ (σ.I (o + 3) x = 7 → σ.I (o + 23) (601 * σ.I (o + 21) x + k) ≠ 0 → 1 ≤ σ.I (o + 18) (σ.I (o + 8) x)) ∧ 0 ≤ xTO σ (σ.I (o + 8) x) k ∧ xTO σ (σ.I (o + 8) x) k ≤ 6000
def RXq (σ : Sto) (o : Nat) (V : Int → Int → Int) (x : Int) : Prop := NWX (GX σ o) (snW σ o) (σ.I 44) (lfX σ o) V x ∧ (7 ≤ σ.I (o + 3) x → LQX σ o x) ∧ x < σ.I (o + 1) 2 ∧ σ.I (o + 1) 2 ≤ 120
def WX (σ : Sto) (o : Nat) (V : Int → Int → Int) (f : Nat) (x : Int) : Prop := WFX (GX σ o) (RXq σ o V) f x
def wsNf (o c : Nat) (i : Int) : Prop := c = o + 29 ∧ i = i
abbrev KNf (o : Nat) (σ τ : Sto) : Prop := Ch (wsNf o) σ τ
theorem KNf_rf {o : Nat} {σ : Sto} : KNf o σ σ := Ch.rf
theorem KNf_w {o : Nat} {σ τ : Sto} {a : Nat} {i v : Int} (e : τ = σ.wI a i v) (h : wsNf o a i) : KNf o σ τ := by subst e; exact Ch.wI Ch.rf h
theorem knf {o : Nat} {σ τ : Sto} (h : KNf o σ τ) {c : Nat} (q : c ≠ o + 29) : τ.I c = σ.I c := funext fun i => h.2 c i (fun z => q z.1)
theorem GX_k {o : Nat} {σ τ : Sto} (h : KNf o σ τ) : GX τ o = GX σ o := by
  unfold GX
  rw [knf h (c := o + 3) (by omega), knf h (c := o + 4) (by omega), knf h (c := o + 5) (by omega), knf h (c := o + 6) (by omega), knf h (c := o + 7) (by omega), knf h (c := o + 11) (by omega)]
theorem xTO_k {o : Nat} {σ τ : Sto} (h : KNf o σ τ) (ho : 80 ≤ o) : xTO τ = xTO σ := by
  funext f k
  unfold xTO
  rw [knf h (c := 26) (by omega), knf h (c := 42) (by omega), knf h (c := 32) (by omega), knf h (c := 43) (by omega)]
theorem lfX_k {o : Nat} {σ τ : Sto} (h : KNf o σ τ) (ho : 80 ≤ o) : lfX τ o = lfX σ o := by
  funext x k
  unfold lfX
  rw [knf h (c := o + 23) (by omega), knf h (c := o + 21) (by omega), knf h (c := o + 3) (by omega), knf h (c := o) (by omega), knf h (c := o + 22) (by omega), knf h (c := o + 18) (by omega), knf h (c := o + 8) (by omega), knf h (c := o + 17) (by omega), xTO_k h ho]
theorem snW_k {o : Nat} {σ τ : Sto} (h : KNf o σ τ) : snW τ o = snW σ o := by
  funext k; unfold snW; rw [knf h (c := o + 15) (by omega), knf h (c := o + 16) (by omega)]
theorem LQX_k {o : Nat} {σ τ : Sto} (h : KNf o σ τ) (ho : 80 ≤ o) : LQX τ o = LQX σ o := by
  funext x
  unfold LQX
  rw [knf h (c := o + 23) (by omega), knf h (c := o + 21) (by omega), knf h (c := o + 3) (by omega), knf h (c := o + 22) (by omega), knf h (c := o + 18) (by omega), knf h (c := o + 8) (by omega), knf h (c := o + 17) (by omega), snW_k h, xTO_k h ho]
theorem WX_k {o : Nat} {σ τ : Sto} {V : Int → Int → Int} (h : KNf o σ τ) (ho : 80 ≤ o) : WX τ o V = WX σ o V := by
  have e : RXq τ o V = RXq σ o V := by
    funext x
    unfold RXq
    rw [GX_k h, lfX_k h ho, LQX_k h ho, snW_k h, knf h (c := 44) (by omega), knf h (c := o + 3) (by omega), knf h (c := o + 1) (by omega)]
  funext f x
  unfold WX
  rw [GX_k h, e]
theorem SNX_w {o : Nat} {σ τ : Sto} {V : Int → Int → Int} {x k : Int} (h : SNX σ o V) (hk : 0 ≤ k ∧ k < 601) (e : τ = σ.wI (o + 29) (601 * x + k) (scW (tabS (GX σ o)) V x k)) : SNX τ o V := by
  have hf : KNf o σ τ := KNf_w e ⟨rfl, rfl⟩
  intro y j y0 y1 j0 j1
  rw [knf hf (c := o + 1) (by omega)] at y1
  rw [GX_k hf, e]
  by_cases z : 601 * y + j = 601 * x + k
  · have e1 : y = x := by omega
    have e2 : j = k := by omega
    subst e1 e2
    right; exact I_same _ _ _ _
  · rw [I_nj _ _ _ _ z]; exact h y j y0 y1 j0 j1
theorem SNX_k {o : Nat} {σ τ : Sto} {V : Int → Int → Int} (h : SNX σ o V) (e : τ = σ) : SNX τ o V := e ▸ h
/-- a world's objects and chains -/
def CHW (σ : Sto) (o : Nat) : Prop := (0 ≤ σ.I (o + 15) 7 ∧ σ.I (o + 15) 7 ≤ 601) ∧ (σ.I (o + 15) 7 = 601 → σ.I 44 600 = -1) ∧ CHN σ (o + 15) ∧ tre σ 44 (σ.I (o + 15) 7) ∧ OB σ 42 43 ∧ bd_0_250 σ 32 6000 ∧ bd_0_59 σ (o + 21) 200
theorem CHW_k {o : Nat} {σ τ : Sto} (h : KNf o σ τ) (ho : 80 ≤ o) (g : CHW σ o) : CHW τ o := by
  have e : chQ τ (o + 15) = chQ σ (o + 15) := by
    funext p k; unfold chQ; rw [knf h (c := o + 15 + 1) (by omega), knf h (c := 44) (by omega)]
  unfold CHW CHN tre OB bd_0_250 bd_0_59
  rw [e, knf h (c := o + 15) (by omega), knf h (c := o + 15 + 4) (by omega), knf h (c := o + 15 + 5) (by omega), knf h (c := o + 15 + 1) (by omega), knf h (c := 44) (by omega), knf h (c := 42) (by omega), knf h (c := 43) (by omega), knf h (c := 32) (by omega), knf h (c := o + 21) (by omega)]
  exact g
section SCO
variable {G : Nat → Int → Int} {V : Int → Int → Int} {n o m k u t s : Int}
theorem smv_no (h : 0 ≤ m) (hs : scW (tabS G) V m o < 0) (ht : 1 ≤ G 4 m) : smV (tabS G) V n o m k u t = smV (tabS G) V n o (G 2 m) k u t := by
  refine smV_no h ?_
  rcases Int.lt_or_le (V m o) 0 with z | z
  · exact z
  · unfold scW at hs; rw [if_neg (by omega), tb4] at hs
    have := (prd_in (t := G 4 m) (s := V m o) ht z).1; omega
theorem scb_in (ht : 1 ≤ G 4 m) : scW (tabS G) V m o = -1 ∨ (0 ≤ scW (tabS G) V m o ∧ scW (tabS G) V m o ≤ 1000000000000000) := by
  unfold scW
  split
  · exact Or.inl rfl
  · rename_i z
    rw [tb4]
    have := prd_in (t := G 4 m) (s := V m o) ht (by omega); exact Or.inr ⟨this.1, this.2.1⟩
theorem sc_yes (hs : 0 ≤ scW (tabS G) V m o) : 0 ≤ V m o := by
  rcases Int.lt_or_le (V m o) 0 with z | z
  · unfold scW at hs; rw [if_pos z] at hs; omega
  · exact z
theorem sc_neg (hs : scW (tabS G) V m o < 0) (ht : 1 ≤ G 4 m) : V m o < 0 := by
  rcases Int.lt_or_le (V m o) 0 with z | z
  · exact z
  · unfold scW at hs; rw [if_neg (by omega), tb4] at hs
    have := (prd_in (t := G 4 m) (s := V m o) ht z).1; omega
theorem smv_yes (h : 0 ≤ m) (hs : 0 ≤ scW (tabS G) V m o) : smV (tabS G) V n o m k u t = smV (tabS G) V n o (G 2 m) (k + 1) (min 1000000000000000 (u + scW (tabS G) V m o)) (if k = 0 ∨ t < scW (tabS G) V m o then scW (tabS G) V m o else t) := smV_yes h (sc_yes hs)
theorem sc_1 (h0 : 0 ≤ V m o) (h : ¬ td 1000000000000000 (G 4 m) < V m o) : scW (tabS G) V m o = V m o * G 4 m := by
  unfold scW; rw [if_neg (by omega), tb4]; unfold prd; rw [if_neg h, Int.mul_comm]
theorem sc_2 (h : V m o < 0) : scW (tabS G) V m o = -1 := by unfold scW; rw [if_pos h]
theorem sc_3 (ht : 1 ≤ G 4 m) (h : td 1000000000000000 (G 4 m) < V m o) : scW (tabS G) V m o = 1000000000000000 := by
  have := (td_r ht).1
  unfold scW; rw [if_neg (by omega), tb4]; unfold prd; rw [if_pos h]
theorem clX_le : ∀ {f : Nat} {x : Int}, clX G f x ≤ f := by
  intro f
  induction f with
  | zero => intro x; exact Nat.le_refl _
  | succ f ih => intro x; unfold clX; have := ih (x := G 2 x); split <;> omega
variable {W : Int → Prop} {P : Int → Int} {N : Int} {Lf : Int → Int → Int}
theorem vB_3 (hW : W o) (h : G 0 n ≤ 3) : vB G W P N Lf V n o = mbV (tabS G) V n o := by unfold vB; rw [if_neg (by rw [zb_t hW]; decide), if_pos h]
theorem vB_4 (hW : W o) (h : G 0 n = 4) : vB G W P N Lf V n o = if zb (exN (fun k => W k ∧ P k = o ∧ 0 ≤ V (G 1 n) k) N) = 1 then 64 else -1 := by unfold vB; rw [if_neg (by rw [zb_t hW]; decide), if_neg (by omega), if_pos h]
theorem vB_5 (hW : W o) (h : G 0 n = 5) : vB G W P N Lf V n o = if zb (0 ≤ P o ∧ W (P o)) = 1 then scW (tabS G) V (G 1 n) (P o) else -1 := by unfold vB; rw [if_neg (by rw [zb_t hW]; decide), if_neg (by omega), if_neg (by omega), if_pos h]
theorem vB_6 (hW : W o) (h : G 0 n = 6) : vB G W P N Lf V n o = 64 := by unfold vB; rw [if_neg (by rw [zb_t hW]; decide), if_neg (by omega), if_neg (by omega), if_neg (by omega), if_pos h]
theorem vB_7 (hW : W o) (h : 7 ≤ G 0 n) : vB G W P N Lf V n o = Lf n o := by unfold vB; rw [if_neg (by rw [zb_t hW]; decide), if_neg (by omega), if_neg (by omega), if_neg (by omega), if_neg (by omega)]
/-- the children of an object, from place i on none below has matched -/
def CLI (σ : Sto) (o : Nat) (V : Int → Int → Int) (m p x : Int) : Prop := ∃ i, 0 ≤ i ∧ i ≤ σ.I (o + 15) 7 ∧ x = fsF (chQ σ (o + 15) p) i (σ.I (o + 15) 7) ∧ ∀ k, 0 ≤ k → k < i → chQ σ (o + 15) p k → V m k < 0
theorem CLI_at {σ : Sto} {o : Nat} {m p x : Int} (h : CLI σ o V m p x) (h0 : 0 ≤ x) : x < σ.I (o + 15) 7 ∧ chQ σ (o + 15) p x := by
  obtain ⟨i, a, b, c, _⟩ := h
  have z := fsF_in (chQ σ (o + 15) p) i (σ.I (o + 15) 7)
  rw [← c] at z
  exact z.elim (fun y => by omega) (fun y => y.2)
theorem CLI_n {σ : Sto} {o : Nat} {m p x : Int} (h : CLI σ o V m p x) (h0 : 0 ≤ x) (hv : V m x < 0) : CLI σ o V m p (fsF (chQ σ (o + 15) p) (x + 1) (σ.I (o + 15) 7)) := by
  have h1 := CLI_at h h0
  obtain ⟨i, a, b, c, e⟩ := h
  have z := fsF_bt (chQ σ (o + 15) p) i (σ.I (o + 15) 7) a b
  rw [← c] at z
  refine ⟨x + 1, by omega, by omega, rfl, fun k k0 k1 q => ?_⟩
  rcases (show k < i ∨ (i ≤ k ∧ k < x) ∨ k = x by omega) with y | y | y
  · exact e k k0 y q
  · exact absurd q (z.2 (by omega) k y.1 y.2)
  · rw [y]; exact hv
theorem CLI_e {σ : Sto} {o : Nat} {m p x : Int} (h : CLI σ o V m p x) (h0 : x < 0) : ∀ k, 0 ≤ k → k < σ.I (o + 15) 7 → chQ σ (o + 15) p k → V m k < 0 := by
  obtain ⟨i, a, b, c, e⟩ := h
  have z := fsF_bt (chQ σ (o + 15) p) i (σ.I (o + 15) 7) a b
  have y := fsF_in (chQ σ (o + 15) p) i (σ.I (o + 15) 7)
  rw [← c] at z y
  intro k k0 k1 q
  rcases Int.lt_or_le k i with w | w
  · exact e k k0 w q
  · exact absurd q (z.1 (by omega) k w k1)
end SCO

abbrev RC_X5_score (E : XE) (V : Int → Int → Int) (f : Nat) : Prop := ∀ {d : Nat} {σ : Sto} {o0 : Nat} {x1 : Int} {x2 : Int}, 3 * f + 8 ≤ d → Lay σ → At5 σ o0 → (o0 = 87 ∨ o0 = 121 ∨ o0 = 155) → (CHW σ o0) → (SNX σ o0 V) → (0 ≤ x1 ∧ WX σ o0 V f x1) → ((0 ≤ x2 ∧ x2 < 601) ∧ snW σ o0 x2) → (f ≤ 300) → CC E mX5_score d [aO o0, aI (x1), aI (x2)] σ (RVL (fun y τ => (y = scW (tabS (GX σ o0)) V x1 x2) ∧ (SNX τ o0 V) ∧ (KNf o0 σ τ)))
abbrev RC_X5_some (E : XE) (V : Int → Int → Int) (f : Nat) : Prop := ∀ {d : Nat} {σ : Sto} {o0 : Nat} {x1 : Int} {x2 : Int}, 3 * f + 6 ≤ d → Lay σ → At5 σ o0 → (o0 = 87 ∨ o0 = 121 ∨ o0 = 155) → (CHW σ o0) → (SNX σ o0 V) → (0 ≤ x1 ∧ WX σ o0 V f x1) → ((0 ≤ x2 ∧ x2 < 601) ∧ snW σ o0 x2) → (σ.I (o0 + 3) x1 ≤ 3 ∧ σ.I (o0 + 3) x1 ≠ 2) → (f ≤ 300) → CC E mX5_some d [aO o0, aI (x1), aI (x2)] σ (RVL (fun y τ => (y = mbV (tabS (GX σ o0)) V x1 x2) ∧ (SNX τ o0 V) ∧ (KNf o0 σ τ)))
abbrev RC_X5_all (E : XE) (V : Int → Int → Int) (f : Nat) : Prop := ∀ {d : Nat} {σ : Sto} {o0 : Nat} {x1 : Int} {x2 : Int}, 3 * f + 6 ≤ d → Lay σ → At5 σ o0 → (o0 = 87 ∨ o0 = 121 ∨ o0 = 155) → (CHW σ o0) → (SNX σ o0 V) → (0 ≤ x1 ∧ WX σ o0 V f x1) → ((0 ≤ x2 ∧ x2 < 601) ∧ snW σ o0 x2) → (σ.I (o0 + 3) x1 = 2) → (f ≤ 300) → CC E mX5_all d [aO o0, aI (x1), aI (x2)] σ (RVL (fun y τ => (y = mbV (tabS (GX σ o0)) V x1 x2) ∧ (SNX τ o0 V) ∧ (KNf o0 σ τ)))
abbrev RC_X5_plainScore (E : XE) (V : Int → Int → Int) (f : Nat) : Prop := ∀ {d : Nat} {σ : Sto} {o0 : Nat} {x1 : Int} {x2 : Int}, 3 * f + 7 ≤ d → Lay σ → At5 σ o0 → (o0 = 87 ∨ o0 = 121 ∨ o0 = 155) → (CHW σ o0) → (SNX σ o0 V) → (0 ≤ x1 ∧ WX σ o0 V f x1) → ((0 ≤ x2 ∧ x2 < 601) ∧ snW σ o0 x2) → (f ≤ 300) → CC E mX5_plainScore d [aO o0, aI (x1), aI (x2)] σ (RVL (fun y τ => (y = V x1 x2) ∧ (SNX τ o0 V) ∧ (KNf o0 σ τ)))
theorem sp_X5_some {E : XE} {d : Nat} {σ : Sto} {V : Int → Int → Int} {f : Nat} {o0 : Nat} {x1 : Int} {x2 : Int} (hd : 3 * f + 6 ≤ d) (hL : Lay σ) (ho0 : At5 σ o0) (p0 : o0 = 87 ∨ o0 = 121 ∨ o0 = 155) (p1 : CHW σ o0) (p2 : SNX σ o0 V) (p3 : 0 ≤ x1 ∧ WX σ o0 V f x1) (p4 : (0 ≤ x2 ∧ x2 < 601) ∧ snW σ o0 x2) (p5 : RC_X5_score E V (Nat.pred f)) (p6 : σ.I (o0 + 3) x1 ≤ 3 ∧ σ.I (o0 + 3) x1 ≠ 2) (p7 : f ≤ 300) : CC E mX5_some d [aO o0, aI (x1), aI (x2)] σ (RVL (fun y τ => (y = mbV (tabS (GX σ o0)) V x1 x2) ∧ (SNX τ o0 V) ∧ (KNf o0 σ τ))) := by sorry
theorem sp_X5_all {E : XE} {d : Nat} {σ : Sto} {V : Int → Int → Int} {f : Nat} {o0 : Nat} {x1 : Int} {x2 : Int} (hd : 3 * f + 6 ≤ d) (hL : Lay σ) (ho0 : At5 σ o0) (p0 : o0 = 87 ∨ o0 = 121 ∨ o0 = 155) (p1 : CHW σ o0) (p2 : SNX σ o0 V) (p3 : 0 ≤ x1 ∧ WX σ o0 V f x1) (p4 : (0 ≤ x2 ∧ x2 < 601) ∧ snW σ o0 x2) (p5 : RC_X5_score E V (Nat.pred f)) (p6 : σ.I (o0 + 3) x1 = 2) (p7 : f ≤ 300) : CC E mX5_all d [aO o0, aI (x1), aI (x2)] σ (RVL (fun y τ => (y = mbV (tabS (GX σ o0)) V x1 x2) ∧ (SNX τ o0 V) ∧ (KNf o0 σ τ))) := by sorry
theorem rcs_some {E : XE} {V : Int → Int → Int} {f : Nat} (h : RC_X5_score E V (Nat.pred f)) : RC_X5_some E V f := by
  intro d σ o0 x1 x2 hd hL ho0 p0 p1 p2 p3 p4 p6 p7
  exact sp_X5_some hd hL ho0 p0 p1 p2 p3 p4 h p6 p7
theorem rcs_all {E : XE} {V : Int → Int → Int} {f : Nat} (h : RC_X5_score E V (Nat.pred f)) : RC_X5_all E V f := by
  intro d σ o0 x1 x2 hd hL ho0 p0 p1 p2 p3 p4 p6 p7
  exact sp_X5_all hd hL ho0 p0 p1 p2 p3 p4 h p6 p7
end
section
/-! contracts: printed by tools/mk.py out of s84b_scoreB.py -/
set_option maxRecDepth 100000
set_option maxHeartbeats 1200000
theorem sp_X5_plainScore {E : XE} {d : Nat} {σ : Sto} {V : Int → Int → Int} {f : Nat} {o0 : Nat} {x1 : Int} {x2 : Int} (hd : 3 * f + 7 ≤ d) (hL : Lay σ) (ho0 : At5 σ o0) (p0 : o0 = 87 ∨ o0 = 121 ∨ o0 = 155) (p1 : CHW σ o0) (p2 : SNX σ o0 V) (p3 : 0 ≤ x1 ∧ WX σ o0 V f x1) (p4 : (0 ≤ x2 ∧ x2 < 601) ∧ snW σ o0 x2) (p5 : RC_X5_score E V (Nat.pred f)) (p6 : f ≤ 300) : CC E mX5_plainScore d [aO o0, aI (x1), aI (x2)] σ (RVL (fun y τ => (y = V x1 x2) ∧ (SNX τ o0 V) ∧ (KNf o0 σ τ))) := by sorry
theorem rcs_plain {E : XE} {V : Int → Int → Int} {f : Nat} (h : RC_X5_score E V (Nat.pred f)) : RC_X5_plainScore E V f := by
  intro d σ o0 x1 x2 hd hL ho0 p0 p1 p2 p3 p4 p6
  exact sp_X5_plainScore hd hL ho0 p0 p1 p2 p3 p4 h p6

theorem sp_X5_score {E : XE} {d : Nat} {σ : Sto} {V : Int → Int → Int} {f : Nat} {o0 : Nat} {x1 : Int} {x2 : Int} (hd : 3 * f + 8 ≤ d) (hL : Lay σ) (ho0 : At5 σ o0) (p0 : o0 = 87 ∨ o0 = 121 ∨ o0 = 155) (p1 : CHW σ o0) (p2 : SNX σ o0 V) (p3 : 0 ≤ x1 ∧ WX σ o0 V f x1) (p4 : (0 ≤ x2 ∧ x2 < 601) ∧ snW σ o0 x2) (p5 : RC_X5_score E V (Nat.pred f)) (p6 : f ≤ 300) : CC E mX5_score d [aO o0, aI (x1), aI (x2)] σ (RVL (fun y τ => (y = scW (tabS (GX σ o0)) V x1 x2) ∧ (SNX τ o0 V) ∧ (KNf o0 σ τ))) := by sorry
theorem rc_X5_score {E : XE} {V : Int → Int → Int} : ∀ f : Nat, RC_X5_score E V f := by
  intro f
  induction f with
  | zero => intro d σ o0 x1 x2 hd hL ho0 p0 p1 p2 p3 p4 p6; exact (p3.2).elim
  | succ f ih => intro d σ o0 x1 x2 hd hL ho0 p0 p1 p2 p3 p4 p6; exact sp_X5_score hd hL ho0 p0 p1 p2 p3 p4 ih p6

theorem sx_X5_score {E : XE} {d : Nat} {σ : Sto} {V : Int → Int → Int} {f : Nat} {o0 : Nat} {x1 : Int} {x2 : Int} (hd : 3 * f + 8 ≤ d) (hL : Lay σ) (ho0 : At5 σ o0) (p0 : o0 = 87 ∨ o0 = 121 ∨ o0 = 155) (p1 : CHW σ o0) (p2 : SNX σ o0 V) (p3 : 0 ≤ x1 ∧ WX σ o0 V f x1) (p4 : (0 ≤ x2 ∧ x2 < 601) ∧ snW σ o0 x2) (p6 : f ≤ 300) : CC E mX5_score d [aO o0, aI (x1), aI (x2)] σ (RVL (fun y τ => (y = scW (tabS (GX σ o0)) V x1 x2) ∧ (SNX τ o0 V) ∧ (KNf o0 σ τ))) := rc_X5_score f hd hL ho0 p0 p1 p2 p3 p4 p6
end
section
/-! contracts: printed by tools/mk.py out of s85_outX.py -/
set_option maxRecDepth 100000
set_option maxHeartbeats 1200000
theorem v_rload_n {E : XE} {M : MI} {d pc pc' : Nat} {L : List (Nat × AV)} {st : List AV} {σ : Sto} {Q : Res → Sto → Prop} {i : Nat} {q : Fin 4} {r : Option Nat} (j : Nat) (hd : DD M.cc pc 1 pc' (.aload_n q)) (hi : (q : Nat) = i) (hj : L[j]? = some (i, aR r)) (h : VV E M d pc' L (aR r :: st) σ Q) : VV E M d pc L st σ Q := by
  obtain ⟨hd, rfl⟩ := hd
  intro p l e R s m args below meth c n0 s0 σ0 hC H locs hR hlo hN ls hl
  have hj' : (L.map (cvL E))[j]? = some (i, cv E (aR r)) := by rw [List.getElem?_map, hj]; rfl
  cases r with
  | none => exact lv_aload_nN hC.ex hC.by hd hi (lv_at hl j hj') (h p l e R s m args below meth c n0 s0 σ0 hC H locs hR hlo hN ls hl)
  | some b => exact lv_aload_n hC.ex hC.by hd hi (lv_at hl j hj') (h p l e R s m args below meth c n0 s0 σ0 hC H locs hR hlo hN ls hl)
/-- a paper under way: how much is written, and what (as far as it fits) -/
abbrev OS : Type := Int × (Int → Int)
def WO (s : OS) (v n : Int) : OS := (s.1 + n, fun i => if s.1 ≤ i ∧ i < s.1 + n ∧ i < 30000 then byO v n (i - s.1) else s.2 i)
def lpN (f : Int → OS → OS) (s : OS) : Nat → OS
  | 0 => s
  | n + 1 => f n (lpN f s n)
def lp (f : Int → OS → OS) (s : OS) (n : Int) : OS := lpN f s n.toNat
theorem lp_0 (f : Int → OS → OS) (s : OS) (n : Int) (h : n ≤ 0) : lp f s n = s := by
  unfold lp; rw [show n.toNat = 0 by omega]; rfl
theorem lp_s (f : Int → OS → OS) (s : OS) (n m : Int) (h : 0 ≤ n) (hm : m = n + 1) : lp f s m = f n (lp f s n) := by
  unfold lp
  rw [show m.toNat = n.toNat + 1 by omega]
  show f (n.toNat : Nat) (lpN f s n.toNat) = _
  rw [show ((n.toNat : Nat) : Int) = n by omega]
theorem WO_1 (s : OS) (v n : Int) : (WO s v n).1 = s.1 + n := rfl
def pX (σ : Sto) : OS := (σ.I 0 101, σ.I 212)
theorem pX_1 (σ : Sto) : (pX σ).1 = σ.I 0 101 := rfl
theorem pX_q {σ τ : Sto} {v n : Int} (h : pX τ = WO (pX σ) v n) : τ.I 0 101 = σ.I 0 101 + n := congrArg Prod.fst h
def wsO (c : Nat) (i : Int) : Prop := c = 212 ∨ (c = 0 ∧ i = 101)
abbrev KO (σ τ : Sto) : Prop := Ch wsO σ τ
theorem KO_rf {σ : Sto} : KO σ σ := Ch.rf
theorem KO_w {σ τ : Sto} {a : Nat} {i v : Int} (e : τ = σ.wI a i v) (h : wsO a i) : KO σ τ := by rw [e]; exact Ch.wI Ch.rf h
theorem KO_rd {σ τ : Sto} {F : Nat → Int → Int} (r : τ.R = σ.R) (s : τ.sh = σ.sh) (n : τ.n = σ.n) (e : τ.I = F) (h : ∀ c i, ¬ wsO c i → F c i = σ.I c i) : KO σ τ := ⟨⟨r, s, n⟩, fun c i q => by rw [e]; exact h c i q⟩
theorem pX_wr {σ τ : Sto} {v n : Int} (e : τ.I = fun c i => if c = 212 ∧ σ.I 0 101 ≤ i ∧ i < σ.I 0 101 + n ∧ i < 30000 then byO v n (i - σ.I 0 101) else if at2 c i 0 101 then σ.I 0 101 + n else σ.I c i) : pX τ = WO (pX σ) v n ∧ ∀ c i, ¬ wsO c i → τ.I c i = σ.I c i := by
  refine ⟨?_, fun c i q => ?_⟩
  · refine Prod.ext ?_ (funext fun i => ?_)
    · show τ.I 0 101 = σ.I 0 101 + n
      rw [e]; grind
    · show τ.I 212 i = (if σ.I 0 101 ≤ i ∧ i < σ.I 0 101 + n ∧ i < 30000 then byO v n (i - σ.I 0 101) else σ.I 212 i)
      rw [e]; grind
  · unfold wsO at q
    rw [e]
    show (if _ then _ else if _ then _ else _) = _
    rw [if_neg (fun z => q (Or.inl z.1)), if_neg (fun z => q (Or.inr z))]
/-- a row with its size ahead -/
def wRow (A Z : Int → Int) (k : Int) (s : OS) : OS := lp (fun j s => WO s (A (20 * k + j)) 1) (WO s (Z k) 1) (Z k)

theorem sp2_X0_write {E : XE} {d : Nat} {σ : Sto} {y1 : Int} {x3 : Int} (hd : 1 ≤ d) (hL : Lay σ)  (p0 : 0 ≤ σ.I 0 101 ∧ σ.I 0 101 ≤ 100000000) (p1 : 1 ≤ x3 ∧ x3 ≤ 8) (p2 : inL y1) : CC E mX0_write d [aO 0, aL (y1), aI (x3)] σ (RV (fun τ => (pX τ = WO (pX σ) y1 x3) ∧ (KO σ τ))) := VV.mono (fun r τ h => ⟨h.1, (pX_wr h.2.2).1, ⟨h.2.1, (pX_wr h.2.2).2⟩⟩) (sp_X0_write hd hL p0 p1 p2)
theorem sp_X0_writeRow {E : XE} {d : Nat} {σ : Sto} {o1 : Nat} {n1 : Nat} {x2 : Int} {x3 : Int} (hd : 2 ≤ d) (hL : Lay σ) (ho1 : σ.sh o1 = (1, n1)) (p0 : o1 ≠ 212 ∧ o1 ≠ 0) (p1 : 0 ≤ x2 ∧ 0 ≤ x3 ∧ x2 + x3 ≤ n1) (p2 : (n1 : Int) ≤ 1000000 ∧ x3 ≤ 30000) (p3 : 0 ≤ σ.I 0 101 ∧ σ.I 0 101 ≤ 90000000) : CC E mX0_writeRow d [aO 0, aO o1, aI (x2), aI (x3)] σ (RV (fun τ => (pX τ = lp (fun k s => WO s (σ.I o1 (x2 + k)) 1) (pX σ) x3) ∧ (τ.I 0 101 = σ.I 0 101 + x3) ∧ (KO σ τ))) := by sorry
/-- row k of Rows o, and the row beside -/
def rwO (σ : Sto) (o : Nat) : Option Nat → Int → OS → OS
  | none => wRow (σ.I (o + 1)) (σ.I (o + 2))
  | some b => fun k s => wRow (σ.I (b + 1)) (σ.I (b + 2)) k (wRow (σ.I (o + 1)) (σ.I (o + 2)) k s)
def BSD (σ : Sto) (n : Int) (r : Option Nat) : Prop := ∀ b, r = some b → 675 ≤ b ∧ At11 σ b ∧ ∀ k, 0 ≤ k → k < n → 0 ≤ σ.I (b + 2) k ∧ σ.I (b + 2) k ≤ 20

theorem sp_X0_writeRows {E : XE} {d : Nat} {σ : Sto} {o1 : Nat} {r2 : Option Nat} (hd : 3 ≤ d) (hL : Lay σ) (ho1 : At11 σ o1) (p0 : 675 ≤ o1) (p1 : 0 ≤ σ.I o1 2 ∧ σ.I o1 2 ≤ 20) (p2 : ∀ k, 0 ≤ k → k < σ.I o1 2 → 0 ≤ σ.I (o1 + 2) k ∧ σ.I (o1 + 2) k ≤ 20) (p3 : BSD σ (σ.I o1 2) r2) (p4 : 0 ≤ σ.I 0 101 ∧ σ.I 0 101 ≤ 80000000) : CC E mX0_writeRows d [aO 0, aO o1, aR (r2)] σ (RV (fun τ => (pX τ = lp (rwO σ o1 r2) (WO (pX σ) (σ.I o1 2) 1) (σ.I o1 2)) ∧ (0 ≤ τ.I 0 101 ∧ τ.I 0 101 ≤ σ.I 0 101 + 900) ∧ (KO σ τ))) := by sorry
/-- a value, an object as they are written -/
def wVX (σ : Sto) (v : Int) (s : OS) : OS := if σ.I 16 (σ.I 26 v) = 0 ∨ σ.I 16 (σ.I 26 v) = 1 then lp (fun k s => WO s (σ.I 35 (σ.I 28 v + k)) 1) (WO (WO s (σ.I 26 v) 1) (σ.I 29 v) 2) (σ.I 29 v) else WO (WO s (σ.I 26 v) 1) (σ.I 30 v) 8
def wOX (σ : Sto) (k : Int) (s : OS) : OS := lp (fun j s => wVX σ (σ.I 42 k + j) s) (WO (WO (WO s k 4) (σ.I 44 k) 4) (σ.I 43 k) 1) (σ.I 43 k)
def VHX (σ : Sto) : Prop := ∀ v, 0 ≤ v → v < σ.I 0 20 → (0 ≤ σ.I 26 v ∧ σ.I 26 v < 12) ∧ (0 ≤ σ.I 28 v ∧ 0 ≤ σ.I 29 v ∧ σ.I 29 v ≤ 1000 ∧ σ.I 28 v + σ.I 29 v ≤ 60000)

theorem sp_X0_writeObject {E : XE} {d : Nat} {σ : Sto} {x1 : Int} (hd : 3 ≤ d) (hL : Lay σ)  (p0 : 0 ≤ x1 ∧ x1 < 600) (p1 : 0 ≤ σ.I 42 x1 ∧ 0 ≤ σ.I 43 x1 ∧ σ.I 43 x1 ≤ 24 ∧ σ.I 42 x1 + σ.I 43 x1 ≤ σ.I 0 20) (p2 : σ.I 0 20 ≤ 6000) (p3 : VHX σ) (p4 : 0 ≤ σ.I 0 101 ∧ σ.I 0 101 ≤ 50000000) : CC E mX0_writeObject d [aO 0, aI (x1)] σ (RV (fun τ => (pX τ = wOX σ x1 (pX σ)) ∧ (0 ≤ τ.I 0 101 ∧ τ.I 0 101 ≤ σ.I 0 101 + 24100) ∧ (KO σ τ))) := by sorry
/-- an analyser, and all that is written -/
def wAX (σ : Sto) (k : Int) (s : OS) : OS := lp (rwO σ (anC σ k + 4) (some (anC σ k + 7))) (WO (lp (rwO σ (anC σ k + 1) none) (WO (WO (WO (WO s (σ.I (anC σ k) 0) 1) (σ.I (anC σ k) 1) 1) (σ.I (anC σ k) 2) 1) (σ.I (anC σ k + 1) 2) 1) (σ.I (anC σ k + 1) 2)) (σ.I (anC σ k + 4) 2) 1) (σ.I (anC σ k + 4) 2)
def wFX (σ : Sto) (f : Int) (s : OS) : OS := WO (WO s (σ.I 16 f) 1) (σ.I 17 f) 1
noncomputable def wIX (σ : Sto) (k : Int) (s : OS) : OS := if zb (inV (σ.I 47) (σ.I 45) (σ.I 46) (σ.I 0 42) k) = 1 then wOX σ k s else s
noncomputable def oX1 (σ : Sto) : OS := lp (wAX σ) (WO (WO (WO (0, σ.I 212) 83 1) 72 1) (σ.I 0 4) 1) (σ.I 0 4)
noncomputable def oX2 (σ : Sto) : OS := lp (wFX σ) (WO (oX1 σ) (σ.I 0 9) 1) (σ.I 0 9)
noncomputable def oX3 (σ : Sto) : OS := WO (lp (wIX σ) (WO (oX2 σ) (cn (inV (σ.I 47) (σ.I 45) (σ.I 46) (σ.I 0 42)) (σ.I 0 39)) 4) (σ.I 0 39)) (σ.I 0 39) 4
noncomputable def oX4 (σ : Sto) : OS := WO (oX3 σ) (w32 (smH (oX3 σ).2 (min (oX3 σ).1 30000))) 4

def wsO2 (c : Nat) (i : Int) : Prop := c = 212 ∨ c = 213 ∨ (c = 0 ∧ (i = 101 ∨ i = 100))
abbrev KO2 (σ τ : Sto) : Prop := Ch wsO2 σ τ
theorem KO2_rf {σ : Sto} : KO2 σ σ := Ch.rf
theorem KO2_w {σ τ : Sto} {a : Nat} {i v : Int} (e : τ = σ.wI a i v) (h : wsO2 a i) : KO2 σ τ := by rw [e]; exact Ch.wI Ch.rf h
theorem KO2_c {σ τ : Sto} {a b : Nat} {i j z : Int} (e : τ = σ.cp a i b j z) (h : ∀ y, j ≤ y → y < j + z → wsO2 b y) : KO2 σ τ := by rw [e]; exact Ch.cp Ch.rf h
theorem KO2_of_KO {σ τ : Sto} (h : KO σ τ) : KO2 σ τ := Ch.mono h (fun c i q => by unfold wsO at q; unfold wsO2; omega)
theorem ko2 {σ τ : Sto} (h : KO2 σ τ) {c : Nat} (q : c ≠ 212 ∧ c ≠ 213 ∧ c ≠ 0) : τ.I c = σ.I c := funext fun i => Ch.at h (by unfold wsO2; omega)
theorem wVX_k {σ τ : Sto} (h : KO2 σ τ) : wVX τ = wVX σ := by
  funext v s; unfold wVX
  rw [ko2 h (c := 16) (by decide), ko2 h (c := 26) (by decide), ko2 h (c := 35) (by decide), ko2 h (c := 28) (by decide), ko2 h (c := 29) (by decide), ko2 h (c := 30) (by decide)]
theorem wOX_k {σ τ : Sto} (h : KO2 σ τ) : wOX τ = wOX σ := by
  funext k s; unfold wOX
  rw [wVX_k h, ko2 h (c := 42) (by decide), ko2 h (c := 44) (by decide), ko2 h (c := 43) (by decide)]
theorem VHX_k {σ τ : Sto} (h : KO2 σ τ) (g : VHX σ) : VHX τ := by
  unfold VHX
  rw [show τ.I 0 20 = σ.I 0 20 from Ch.at h (by unfold wsO2; omega), ko2 h (c := 26) (by decide), ko2 h (c := 28) (by decide), ko2 h (c := 29) (by decide)]; exact g
theorem rwO_n {σ τ : Sto} {o : Nat} (h : KO2 σ τ) (ho : 675 ≤ o) : rwO τ o none = rwO σ o none := by
  unfold rwO; rw [ko2 h (c := o + 1) (by omega), ko2 h (c := o + 2) (by omega)]
theorem rwO_s {σ τ : Sto} {o b : Nat} (h : KO2 σ τ) (ho : 675 ≤ o) (hb : 675 ≤ b) : rwO τ o (some b) = rwO σ o (some b) := by
  funext k s
  show wRow (τ.I (b + 1)) (τ.I (b + 2)) k (wRow (τ.I (o + 1)) (τ.I (o + 2)) k s) = wRow (σ.I (b + 1)) (σ.I (b + 2)) k (wRow (σ.I (o + 1)) (σ.I (o + 2)) k s)
  rw [ko2 h (c := o + 1) (by omega), ko2 h (c := o + 2) (by omega), ko2 h (c := b + 1) (by omega), ko2 h (c := b + 2) (by omega)]
def ANW (σ : Sto) (o : Nat) : Prop := (0 ≤ σ.I (o + 1) 2 ∧ σ.I (o + 1) 2 ≤ 20) ∧ (0 ≤ σ.I (o + 4) 2 ∧ σ.I (o + 4) 2 ≤ 20) ∧ ∀ k, 0 ≤ k → k < 20 → (0 ≤ σ.I (o + 3) k ∧ σ.I (o + 3) k ≤ 20) ∧ (0 ≤ σ.I (o + 6) k ∧ σ.I (o + 6) k ≤ 20) ∧ (0 ≤ σ.I (o + 9) k ∧ σ.I (o + 9) k ≤ 20)
def ANWs (σ : Sto) : Prop := ∀ k, 0 ≤ k → k < σ.I 0 4 → ANW σ (anC σ k)
def SPR (σ τ : Sto) : Prop := τ.I 0 100 = σ.I 0 100 ∧ ∀ i, 0 ≤ i → i < σ.I 0 100 → τ.I 213 i = σ.I 212 i
theorem SPR_k {σ τ υ : Sto} (h : SPR σ τ) (k : KO τ υ) : SPR σ υ := ⟨(Ch.at k (by unfold wsO; omega)).trans h.1, fun i a b => (Ch.at k (by unfold wsO; omega)).trans (h.2 i a b)⟩

theorem sp_X0_export {E : XE} {d : Nat} {σ : Sto}  (hd : 6 ≤ d) (hL : Lay σ)  (p0 : 0 ≤ σ.I 0 100 ∧ σ.I 0 100 ≤ 30000) (p1 : 0 ≤ σ.I 0 4 ∧ σ.I 0 4 ≤ 6) (p2 : AN σ) (p3 : ANWs σ) (p4 : 0 ≤ σ.I 0 9 ∧ σ.I 0 9 ≤ 12) (p5 : 0 ≤ σ.I 0 39 ∧ σ.I 0 39 ≤ 600) (p6 : OX σ (σ.I 0 39)) (p7 : 0 ≤ σ.I 0 20 ∧ σ.I 0 20 ≤ 6000) (p8 : VHX σ) : CC E mX0_export d [aO 0] σ (RVI (fun y τ => ((30000 < (oX4 σ).1 ∧ y = -3 ∧ τ.I 0 100 = σ.I 0 100 ∧ ∀ i, 0 ≤ i → i < σ.I 0 100 → τ.I 212 i = σ.I 212 i) ∨ ((oX4 σ).1 ≤ 30000 ∧ y = (oX4 σ).1 ∧ τ.I 0 100 = (oX4 σ).1 ∧ τ.I 212 = (oX4 σ).2)) ∧ (KO2 σ τ))) := by sorry
end
section
/-! contracts: printed by tools/mk.py out of s86_outM.py -/
set_option maxRecDepth 100000
set_option maxHeartbeats 1200000
theorem sp_X9_put {E : XE} {d : Nat} {σ : Sto} {b : Nat} {y1 : Int} {x3 : Int} (hd : 1 ≤ d) (hL : Lay σ)  (p0 : σ.R 555 163 = some b) (p1 : 673 ≤ b ∧ b ≤ 674) (p2 : σ.sh b = (1, 30000)) (p3 : 0 ≤ σ.I 555 165 ∧ σ.I 555 165 ≤ 100000000) (p4 : 1 ≤ x3 ∧ x3 ≤ 8) (p5 : inL y1) : CC E mX9_put d [aO 555, aL (y1), aI (x3)] σ (RV (fun τ => RD σ τ (fun c i => if c = b ∧ σ.I 555 165 ≤ i ∧ i < σ.I 555 165 + x3 ∧ i < 30000 then byO y1 x3 (i - σ.I 555 165) else if at2 c i 555 165 then σ.I 555 165 + x3 else σ.I c i))) := by sorry
/-- the model's paper under way lies at b -/
def pM (b : Nat) (σ : Sto) : OS := (σ.I 555 165, σ.I b)
theorem pM_1 (b : Nat) (σ : Sto) : (pM b σ).1 = σ.I 555 165 := rfl
theorem pM_q {b : Nat} {σ τ : Sto} {v n : Int} (h : pM b τ = WO (pM b σ) v n) : τ.I 555 165 = σ.I 555 165 + n := congrArg Prod.fst h
def wsPp (b c : Nat) (i : Int) : Prop := c = b ∨ (c = 555 ∧ i = 165)
abbrev KPp (b : Nat) (σ τ : Sto) : Prop := Ch (wsPp b) σ τ
theorem KPp_rf {b : Nat} {σ : Sto} : KPp b σ σ := Ch.rf
theorem KPp_w {b : Nat} {σ τ : Sto} {a : Nat} {i v : Int} (e : τ = σ.wI a i v) (h : wsPp b a i) : KPp b σ τ := by rw [e]; exact Ch.wI Ch.rf h
theorem kpp {b : Nat} {σ τ : Sto} (h : KPp b σ τ) {c : Nat} (q : c ≠ b ∧ c ≠ 555) : τ.I c = σ.I c := funext fun i => Ch.at h (by unfold wsPp; omega)
theorem pM_wr {b : Nat} {σ τ : Sto} {v n : Int} (hb : 673 ≤ b) (e : τ.I = fun c i => if c = b ∧ σ.I 555 165 ≤ i ∧ i < σ.I 555 165 + n ∧ i < 30000 then byO v n (i - σ.I 555 165) else if at2 c i 555 165 then σ.I 555 165 + n else σ.I c i) : pM b τ = WO (pM b σ) v n ∧ ∀ c i, ¬ wsPp b c i → τ.I c i = σ.I c i := by
  refine ⟨?_, fun c i q => ?_⟩
  · unfold pM WO
    rw [e]
    refine Prod.ext ?_ (funext fun i => ?_)
    · show (if _ then _ else if _ then _ else _) = _
      rw [if_neg (by omega), if_pos ⟨rfl, rfl⟩]
    · show (if _ then _ else if _ then _ else _) = if _ then _ else _
      by_cases z : σ.I 555 165 ≤ i ∧ i < σ.I 555 165 + n ∧ i < 30000
      · rw [if_pos ⟨rfl, z⟩, if_pos z]
      · rw [if_neg (fun y => z y.2), if_neg (fun y => absurd y.1 (by omega)), if_neg z]
  · unfold wsPp at q
    rw [e]
    show (if _ then _ else if _ then _ else _) = _
    rw [if_neg (fun z => q (Or.inl z.1)), if_neg (fun z => q (Or.inr z))]

theorem sp2_X9_put {E : XE} {d : Nat} {σ : Sto} {b : Nat} {y1 : Int} {x3 : Int} (hd : 1 ≤ d) (hL : Lay σ)  (p0 : σ.R 555 163 = some b) (p1 : 673 ≤ b ∧ b ≤ 674) (p2 : σ.sh b = (1, 30000)) (p3 : 0 ≤ σ.I 555 165 ∧ σ.I 555 165 ≤ 100000000) (p4 : 1 ≤ x3 ∧ x3 ≤ 8) (p5 : inL y1) : CC E mX9_put d [aO 555, aL (y1), aI (x3)] σ (RV (fun τ => (pM b τ = WO (pM b σ) y1 x3) ∧ (KPp b σ τ))) := VV.mono (fun r τ h => ⟨h.1, (pM_wr p1.1 h.2.2).1, ⟨h.2.1, (pM_wr p1.1 h.2.2).2⟩⟩) (sp_X9_put hd hL p0 p1 p2 p3 p4 p5)
theorem sp_X9_putTold {E : XE} {d : Nat} {σ : Sto} {b : Nat} {x1 : Int} (hd : 2 ≤ d) (hL : Lay σ)  (p0 : σ.R 555 163 = some b) (p1 : 673 ≤ b ∧ b ≤ 674) (p2 : σ.sh b = (1, 30000)) (p3 : 0 ≤ x1 ∧ x1 < 360) (p4 : 0 ≤ σ.I 564 x1 ∧ σ.I 564 x1 ≤ 20) (p5 : 0 ≤ σ.I 555 165 ∧ σ.I 555 165 ≤ 90000000) : CC E mX9_putTold d [aO 555, aI (x1)] σ (RV (fun τ => (pM b τ = wRow (σ.I 563) (σ.I 564) x1 (pM b σ)) ∧ (0 ≤ τ.I 555 165 ∧ τ.I 555 165 ≤ σ.I 555 165 + 21) ∧ (KPp b σ τ))) := by sorry
def sAM (σ : Sto) (a : Int) (s : OS) : OS := WO (WO (WO (WO s (σ.I 558 a) 1) (σ.I 559 a) 1) (σ.I 560 a) 1) (σ.I 561 a) 1
def tAM (σ : Sto) (a : Int) (s : OS) : OS := WO (lp (fun k s => wRow (σ.I 563) (σ.I 564) (60 * a + k) s) (sAM σ a s) (σ.I 561 a)) (σ.I 562 a) 1
def wAM (σ : Sto) (a : Int) (s : OS) : OS := lp (fun k s => wRow (σ.I 563) (σ.I 564) (60 * a + 20 + k) s) (tAM σ a s) (2 * σ.I 562 a)

theorem sp_X9_putAnalyser {E : XE} {d : Nat} {σ : Sto} {b : Nat} {x1 : Int} (hd : 3 ≤ d) (hL : Lay σ)  (p0 : σ.R 555 163 = some b) (p1 : 673 ≤ b ∧ b ≤ 674) (p2 : σ.sh b = (1, 30000)) (p3 : 0 ≤ x1 ∧ x1 < 6) (p4 : bd_0_20 σ 564 360) (p5 : 0 ≤ σ.I 561 x1 ∧ σ.I 561 x1 ≤ 20) (p6 : 0 ≤ σ.I 562 x1 ∧ σ.I 562 x1 ≤ 20) (p7 : 0 ≤ σ.I 555 165 ∧ σ.I 555 165 ≤ 80000000) : CC E mX9_putAnalyser d [aO 555, aI (x1)] σ (RV (fun τ => (pM b τ = wAM σ x1 (pM b σ)) ∧ (0 ≤ τ.I 555 165 ∧ τ.I 555 165 ≤ σ.I 555 165 + 1300) ∧ (KPp b σ τ))) := by sorry
def kdM (σ : Sto) (v : Int) : Int := σ.I 577 (σ.I 579 v)
def v1M (σ : Sto) (v : Int) (s : OS) : OS := WO s (σ.I 579 v) 1
def vTM (σ : Sto) (v : Int) (s : OS) (n : Int) : OS := lp (fun j s => WO s (σ.I 585 (σ.I 580 v + j)) 1) (WO (v1M σ v s) (σ.I 581 v) 2) n
def vRM (σ : Sto) (v : Int) (s : OS) (n : Int) : OS := lp (fun j s => WO s (σ.I 584 (4 * v + j)) 2) (v1M σ v s) n
def wVM (σ : Sto) (v : Int) (s : OS) : OS := if kdM σ v = 0 ∨ kdM σ v = 1 then vTM σ v s (σ.I 581 v) else if kdM σ v = 2 then WO (v1M σ v s) (σ.I 583 v) 8 else if kdM σ v = 3 then WO (WO (v1M σ v s) (σ.I 584 (4 * v)) 4) (σ.I 584 (4 * v + 1)) 4 else vRM σ v s 4
def VH1 (σ : Sto) (v : Int) : Prop := (0 ≤ σ.I 579 v ∧ σ.I 579 v < 12) ∧ (0 ≤ σ.I 580 v ∧ 0 ≤ σ.I 581 v ∧ σ.I 581 v ≤ 1000 ∧ σ.I 580 v + σ.I 581 v ≤ 60000)
def VHM (σ : Sto) : Prop := ∀ v, 0 ≤ v → v < σ.I 555 30 → VH1 σ v

theorem sp_X9_putValue {E : XE} {d : Nat} {σ : Sto} {b : Nat} {x1 : Int} (hd : 3 ≤ d) (hL : Lay σ)  (p0 : σ.R 555 163 = some b) (p1 : 673 ≤ b ∧ b ≤ 674) (p2 : σ.sh b = (1, 30000)) (p3 : 0 ≤ x1 ∧ x1 < 6000) (p4 : VH1 σ x1) (p5 : 0 ≤ σ.I 555 165 ∧ σ.I 555 165 ≤ 80000000) : CC E mX9_putValue d [aO 555, aI (x1)] σ (RV (fun τ => (pM b τ = wVM σ x1 (pM b σ)) ∧ (0 ≤ τ.I 555 165 ∧ τ.I 555 165 ≤ σ.I 555 165 + 1003) ∧ (KPp b σ τ))) := by sorry
def wFM (σ : Sto) (f : Int) (s : OS) : OS := WO (WO s (σ.I 577 f) 1) (σ.I 578 f) 1
def hOM (σ : Sto) (k : Int) (s : OS) : OS := WO (WO (WO s k 4) (σ.I 591 k) 4) (σ.I 596 k) 1
def gOM (σ : Sto) (k : Int) (s : OS) (n : Int) : OS := lp (fun j s => wVM σ (σ.I 595 k + j) s) (hOM σ k s) n
def wOM (σ : Sto) (k : Int) (s : OS) : OS := gOM σ k s (σ.I 596 k)
noncomputable def wIM (σ : Sto) (k : Int) (s : OS) : OS := if zb ((inV (σ.I 594) (σ.I 592) (σ.I 593) (σ.I 555 55)) k) = 1 then wOM σ k s else s
noncomputable def oM1 (σ : Sto) (b : Nat) : OS := lp (wAM σ) (WO (WO (WO (0, σ.I b) 83 1) 72 1) (σ.I 555 3) 1) (σ.I 555 3)
noncomputable def oM2 (σ : Sto) (b : Nat) : OS := lp (wFM σ) (WO (oM1 σ b) (σ.I 555 27) 1) (σ.I 555 27)
noncomputable def oMi (σ : Sto) (b : Nat) (n : Int) : OS := lp (wIM σ) (WO (oM2 σ b) (cn (inV (σ.I 594) (σ.I 592) (σ.I 593) (σ.I 555 55)) (σ.I 555 52)) 4) n
noncomputable def oM3 (σ : Sto) (b : Nat) : OS := WO (oMi σ b (σ.I 555 52)) (σ.I 555 52) 4
noncomputable def oM4 (σ : Sto) (b : Nat) : OS := WO (oM3 σ b) (w32 (smH (oM3 σ b).2 (oM3 σ b).1)) 4
theorem wVM_k {b : Nat} {σ τ : Sto} (h : KPp b σ τ) (hb : 673 ≤ b) : wVM τ = wVM σ := by
  funext v s; unfold wVM vTM vRM v1M kdM
  rw [kpp h (c := 577) (by omega), kpp h (c := 579) (by omega), kpp h (c := 585) (by omega), kpp h (c := 580) (by omega), kpp h (c := 581) (by omega), kpp h (c := 583) (by omega), kpp h (c := 584) (by omega)]
theorem VH1_k {b : Nat} {σ τ : Sto} (h : KPp b σ τ) (hb : 673 ≤ b) : VH1 τ = VH1 σ := by
  funext v; unfold VH1
  rw [kpp h (c := 579) (by omega), kpp h (c := 580) (by omega), kpp h (c := 581) (by omega)]
theorem wAM_k {b : Nat} {σ τ : Sto} (h : KPp b σ τ) (hb : 673 ≤ b) : wAM τ = wAM σ := by
  funext a s; unfold wAM tAM sAM
  rw [kpp h (c := 563) (by omega), kpp h (c := 564) (by omega), kpp h (c := 558) (by omega), kpp h (c := 559) (by omega), kpp h (c := 560) (by omega), kpp h (c := 561) (by omega), kpp h (c := 562) (by omega)]
def HOB (σ : Sto) : Prop := ∀ o, 0 ≤ o → o < σ.I 555 52 → σ.I 594 o = 1 → σ.I 595 o + σ.I 596 o ≤ σ.I 555 30

theorem sp_X9_export {E : XE} {d : Nat} {σ : Sto} {b : Nat} (hd : 6 ≤ d) (hL : Lay σ)  (p0 : σ.R 555 163 = some b) (p1 : 673 ≤ b ∧ b ≤ 674) (p2 : σ.sh b = (1, 30000)) (p3 : 0 ≤ σ.I 555 3 ∧ σ.I 555 3 ≤ 6) (p4 : bd_0_20 σ 564 360) (p5 : bd_0_20 σ 561 6) (p6 : bd_0_20 σ 562 6) (p7 : 0 ≤ σ.I 555 27 ∧ σ.I 555 27 ≤ 12) (p8 : 0 ≤ σ.I 555 52 ∧ σ.I 555 52 ≤ 600) (p9 : OB σ 595 596) (p10 : 0 ≤ σ.I 555 30 ∧ σ.I 555 30 ≤ 6000) (p11 : HOB σ) (p12 : VHM σ) (p13 : σ.R 555 162 ≠ none) (p14 : ∀ z, σ.R 555 162 = some z → z ≠ b ∧ σ.sh z = (1, 30000)) : CC E mX9_export d [aO 555] σ (RVI (fun y τ => ((30000 < (oM3 σ b).1 + 4 ∧ y = -3 ∧ KPp b σ τ) ∨ ((oM3 σ b).1 + 4 ≤ 30000 ∧ y = (oM4 σ b).1 ∧ τ.I 555 164 = (oM4 σ b).1 ∧ τ.I b = (oM4 σ b).2 ∧ (τ.R 555 162 = some b ∧ τ.R 555 163 = σ.R 555 162 ∧ (∀ a k, ¬ (a = 555 ∧ (k = 162 ∨ k = 163)) → τ.R a k = σ.R a k) ∧ τ.sh = σ.sh ∧ τ.n = σ.n) ∧ ∀ c i, ¬ (wsPp b c i ∨ (c = 555 ∧ i = 164)) → τ.I c i = σ.I c i)))) := by sorry
end
section
/-! contracts: printed by tools/mk.py out of s89_lookX.py -/
set_option maxRecDepth 100000
set_option maxHeartbeats 800000
/-- at how many places a value matches; the first of the first place's terms that it has -/
noncomputable def mtX (σ : Sto) (o : Nat) (n v : Int) : Int := mtc (sxQ σ o n v) (fun p => σ.I (o + 26) (σ.I (o + 24) n + p)) (σ.I (o + 25) n) (σ.I (o + 11) n)
def lkC (σ : Sto) (o : Nat) (n t v : Int) : Prop := sn σ (o + 15) (σ.I 27 v) ∧ exN (fun i => σ.I 36 (σ.I 31 v + i) = t) (σ.I 32 v) ∧ ftX σ o n v = t
noncomputable def fdS (σ : Sto) (o : Nat) (n t b m : Int) : Int := smP (fun v => lkC σ o n t v ∧ σ.I 27 v = b) (mtX σ o n) m
/-- tokens lie value by value -/
def TVL (σ : Sto) (K V : Int) : Prop := (∀ k, 0 ≤ k → k < K → (0 ≤ σ.I 38 k ∧ σ.I 38 k < V) ∧ σ.I 31 (σ.I 38 k) ≤ k ∧ k < σ.I 31 (σ.I 38 k) + σ.I 32 (σ.I 38 k)) ∧ (∀ v i, 0 ≤ v → v < V → 0 ≤ i → i < σ.I 32 v → 0 ≤ σ.I 31 v + i ∧ σ.I 31 v + i < K ∧ σ.I 38 (σ.I 31 v + i) = v) ∧ ∀ v w, 0 ≤ v → v < w → w < V → σ.I 31 v + σ.I 32 v ≤ σ.I 31 w
theorem TVL_mo {σ : Sto} {K V k l : Int} (h : TVL σ K V) (h0 : 0 ≤ k) (h1 : k ≤ l) (h2 : l < K) : σ.I 38 k ≤ σ.I 38 l := by
  obtain ⟨a1, a2, a3⟩ := h.1 k h0 (by omega)
  obtain ⟨b1, b2, b3⟩ := h.1 l (by omega) h2
  rcases Int.lt_or_le (σ.I 38 l) (σ.I 38 k) with z | z
  · have := h.2.2 _ _ b1.1 z a1.2; omega
  · exact z
def vAt (σ : Sto) (V x : Int) : Int := if x = -1 then V else σ.I 38 x
def bAt (σ : Sto) (V x3 x4 : Int) : Int := if x3 = vAt σ V x4 then vAt σ V x4 + 1 else vAt σ V x4
/-- the chain of a term, looked at as far as place x4; x3 is the value that was looked at last -/
def LKV (σ τ : Sto) (o : Nat) (n t K V x3 x4 : Int) : Prop := (x4 = -1 ∨ (0 ≤ x4 ∧ x4 < K ∧ tkQ σ t x4)) ∧ (-1 ≤ x3 ∧ x3 < V ∧ x3 ≤ vAt σ V x4) ∧ ∀ k, 0 ≤ k → k < 601 → τ.I (o + 23) (601 * σ.I (o + 21) n + k) = σ.I (o + 23) (601 * σ.I (o + 21) n + k) + fdS σ o n t k (bAt σ V x3 x4)
theorem smP_sk {p : Int → Prop} {g : Int → Int} {a b : Int} (h0 : 0 ≤ a) (h : a ≤ b) (hp : ∀ v, a ≤ v → v < b → ¬ p v) : smP p g b = smP p g a := by
  obtain ⟨n, rfl⟩ : ∃ n : Nat, b = a + n := ⟨(b - a).toNat, by omega⟩
  clear h
  induction n with
  | zero => rw [show a + ((0 : Nat) : Int) = a by omega]
  | succ n ih => rw [smP_f p g (a + n) (a + (n + 1 : Nat)) (by omega) (by omega) (hp _ (by omega) (by omega)), ih (fun v x y => hp v x (by omega))]
theorem smP_le {p : Int → Prop} {g : Int → Int} {a b : Int} (h0 : 0 ≤ a) (h : a ≤ b) (hg : ∀ v, 0 ≤ g v) : smP p g a ≤ smP p g b := by
  obtain ⟨n, rfl⟩ : ∃ n : Nat, b = a + n := ⟨(b - a).toNat, by omega⟩
  clear h
  induction n with
  | zero => rw [show a + ((0 : Nat) : Int) = a by omega]; exact Int.le_refl _
  | succ n ih =>
    rcases Classical.em (p (a + n)) with z | z
    · rw [smP_t p g (a + n) (a + (n + 1 : Nat)) (by omega) (by omega) z]; have := hg (a + n); omega
    · rw [smP_f p g (a + n) (a + (n + 1 : Nat)) (by omega) (by omega) z]; exact ih
theorem mtX_nn {σ : Sto} {o : Nat} {n v : Int} : 0 ≤ mtX σ o n v ∧ mtX σ o n v ≤ 500 := by
  have := cn_in (fun x => sxQ σ o n v 0 x ∧ mAt (sxQ σ o n v) (fun p => σ.I (o + 26) (σ.I (o + 24) n + p)) (σ.I (o + 25) n) (σ.I (o + 11) n) x) 500
  unfold mtX mtc; omega
section LKS
variable {σ τ υ : Sto} {o : Nat} {n t K V x3 x4 y3 nx : Int}
theorem fdS_gap {b a c : Int} (hT : TVL σ K V) (hn : ∀ k, a ≤ k → k < c → ¬ tkQ σ t k) {v w : Int} (h0 : 0 ≤ v) (hw : v ≤ w) (hV : w ≤ V) (hlo : ∀ u i, v ≤ u → u < w → 0 ≤ i → i < σ.I 32 u → a ≤ σ.I 31 u + i ∧ σ.I 31 u + i < c) : fdS σ o n t b w = fdS σ o n t b v :=
  smP_sk h0 hw (fun u x y z => by
    obtain ⟨i, i0, i1, i2⟩ := z.1.2.1
    have q := hlo u i x y i0 i1
    exact hn _ q.1 q.2 i2)
theorem LKV_at (h : LKV σ τ o n t K V x3 x4) (h0 : 0 ≤ x4) : (x4 < K ∧ tkQ σ t x4) ∧ vAt σ V x4 = σ.I 38 x4 := ⟨h.1.elim (fun z => by omega) (fun z => z.2), if_neg (by omega)⟩
theorem LKV_s (h : LKV σ τ o n t K V x3 x4) (hT : TVL σ K V) (hV : 0 ≤ V) (h0 : 0 ≤ x4) (hn : nx = fsF (tkQ σ t) (x4 + 1) K)
    (hx : (y3 = x3 ∧ (x3 = σ.I 38 x4 ∨ ¬ sn σ (o + 15) (σ.I 27 (σ.I 38 x4)))) ∨ y3 = σ.I 38 x4 ∧ x3 ≠ σ.I 38 x4)
    (hf : ∀ k, 0 ≤ k → k < 601 → υ.I (o + 23) (601 * σ.I (o + 21) n + k) = τ.I (o + 23) (601 * σ.I (o + 21) n + k) + (if zb (x3 ≠ σ.I 38 x4 ∧ lkC σ o n t (σ.I 38 x4) ∧ σ.I 27 (σ.I 38 x4) = k) = 1 then mtX σ o n (σ.I 38 x4) else 0)) : LKV σ υ o n t K V y3 nx := by
  obtain ⟨⟨a1, a2⟩, a3⟩ := LKV_at h h0
  obtain ⟨_, ⟨b1, b2, b3⟩, b4⟩ := h
  have c1 := hT.1 x4 h0 a1
  have hb := fsF_in (tkQ σ t) (x4 + 1) K
  have ht := fsF_bt (tkQ σ t) (x4 + 1) K (by omega) (by omega)
  rw [← hn] at hb ht
  have hv1 : σ.I 38 x4 ≤ vAt σ V nx ∧ vAt σ V nx ≤ V := by
    unfold vAt
    split
    · omega
    · rcases hb with z | z
      · contradiction
      · have := TVL_mo hT h0 (show x4 ≤ nx by omega) (by omega)
        have := hT.1 nx (by omega) (by omega); omega
  rw [a3] at b3
  refine ⟨?_, ⟨by omega, by omega, by omega⟩, fun k k0 k1 => ?_⟩
  · rcases hb with z | z
    · exact Or.inl z
    · exact Or.inr ⟨by omega, z.2⟩
  · rw [hf k k0 k1, b4 k k0 k1]
    -- what is told as far as this value
    have e1 : fdS σ o n t k (σ.I 38 x4 + 1) = fdS σ o n t k (bAt σ V x3 x4) + (if zb (x3 ≠ σ.I 38 x4 ∧ lkC σ o n t (σ.I 38 x4) ∧ σ.I 27 (σ.I 38 x4) = k) = 1 then mtX σ o n (σ.I 38 x4) else 0) := by
      unfold bAt
      rw [a3]
      by_cases z : x3 = σ.I 38 x4
      · rw [if_pos z, if_neg (by rw [zb_f (fun y => y.1 z)]; decide), Int.add_zero]
      · rw [if_neg z]
        by_cases y : lkC σ o n t (σ.I 38 x4) ∧ σ.I 27 (σ.I 38 x4) = k
        · rw [if_pos (zb_t ⟨z, y⟩)]; exact smP_t _ _ _ _ c1.1.1 rfl y
        · rw [if_neg (by rw [zb_f (fun w => y w.2)]; decide), Int.add_zero]; exact smP_f _ _ _ _ c1.1.1 rfl y
    -- from there to the next one
    have e2 : fdS σ o n t k (bAt σ V y3 nx) = fdS σ o n t k (σ.I 38 x4 + 1) := by
      unfold bAt
      by_cases z : vAt σ V nx = σ.I 38 x4
      · by_cases w : y3 = vAt σ V nx
        · rw [if_pos w, z]
        · rw [if_neg w, z]
          refine (smP_f _ _ _ _ c1.1.1 rfl (fun q => ?_)).symm
          rcases hx with ⟨x1, x2 | x2⟩ | x1
          · omega
          · exact x2 q.1.1
          · omega
      · rw [if_neg (by omega)]
        refine fdS_gap (a := x4 + 1) (c := if nx = -1 then K else nx) hT (fun i i0 i1 => ?_) (by omega) (by omega) hv1.2 (fun u i u0 u1 i0 i1 => ?_)
        · by_cases w : nx = -1
          · rw [if_pos w] at i1; exact ht.1 w i i0 i1
          · rw [if_neg w] at i1; exact ht.2 w i i0 i1
        · have q1 := hT.2.1 u i (by omega) (by omega) i0 i1
          have q2 := hT.2.2 (σ.I 38 x4) u c1.1.1 (by omega) (by omega)
          refine ⟨by omega, ?_⟩
          unfold vAt at u1
          by_cases w : nx = -1
          · rw [if_pos w]; exact q1.2.1
          · rw [if_neg w]
            rw [if_neg w] at u1
            rcases hb with y | y
            · contradiction
            · have q3 := hT.1 nx (by omega) (by omega)
              have q4 := hT.2.2 u (σ.I 38 nx) (by omega) u1 q3.1.2
              omega
    rw [e2, e1]; omega
theorem LKV_bA (h : LKV σ τ o n t K V x3 x4) (hT : TVL σ K V) (hV : 0 ≤ V) : 0 ≤ bAt σ V x3 x4 ∧ bAt σ V x3 x4 ≤ V := by
  obtain ⟨a, ⟨b1, b2, b3⟩, _⟩ := h
  rcases a with z | z
  · have e : vAt σ V x4 = V := if_pos z
    unfold bAt; rw [e, if_neg (by omega)]; omega
  · have e : vAt σ V x4 = σ.I 38 x4 := if_neg (by omega)
    have y := (hT.1 x4 z.1 z.2.1).1
    unfold bAt; rw [e]; split <;> omega
theorem LKV_fb (h : LKV σ τ o n t K V x3 x4) (hT : TVL σ K V) (hV : 0 ≤ V) {k : Int} (k0 : 0 ≤ k) (k1 : k < 601) (hb : 0 ≤ σ.I (o + 23) (601 * σ.I (o + 21) n + k) ∧ σ.I (o + 23) (601 * σ.I (o + 21) n + k) + fdS σ o n t k V ≤ 32767) : 0 ≤ τ.I (o + 23) (601 * σ.I (o + 21) n + k) ∧ τ.I (o + 23) (601 * σ.I (o + 21) n + k) ≤ 32767 - (if bAt σ V x3 x4 < V then fdS σ o n t k (bAt σ V x3 x4 + 1) - fdS σ o n t k (bAt σ V x3 x4) else 0) := by
  have hA := LKV_bA h hT hV
  have u := h.2.2 k k0 k1
  have s1 : fdS σ o n t k 0 ≤ fdS σ o n t k (bAt σ V x3 x4) := smP_le (Int.le_refl _) hA.1 (fun v => mtX_nn.1)
  have s0 : fdS σ o n t k 0 = 0 := smP_0 _ _ _ (Int.le_refl _)
  refine ⟨by omega, ?_⟩
  by_cases z : bAt σ V x3 x4 < V
  · have s2 : fdS σ o n t k (bAt σ V x3 x4 + 1) ≤ fdS σ o n t k V := smP_le (by omega) (by omega) (fun v => mtX_nn.1)
    rw [if_pos z]; omega
  · have s2 : fdS σ o n t k (bAt σ V x3 x4) ≤ fdS σ o n t k V := smP_le hA.1 hA.2 (fun v => mtX_nn.1)
    rw [if_neg z]; omega
theorem LKV_x (h : LKV σ τ o n t K V x3 x4) : (-1 ≤ x3 ∧ x3 < V) ∧ (x4 = -1 ∨ (0 ≤ x4 ∧ x4 < K)) := ⟨⟨h.2.1.1, h.2.1.2.1⟩, h.1.elim Or.inl (fun z => Or.inr ⟨z.1, z.2.1⟩)⟩
theorem LKV_0 (hT : TVL σ K V) (hV : 0 ≤ V) (hK : 0 ≤ K) (hn : nx = fsF (tkQ σ t) 0 K) : LKV σ σ o n t K V (-1) nx := by
  have hb := fsF_in (tkQ σ t) 0 K
  have ht := fsF_bt (tkQ σ t) 0 K (by omega) hK
  rw [← hn] at hb ht
  have hv : 0 ≤ vAt σ V nx ∧ vAt σ V nx ≤ V := by
    unfold vAt
    split
    · omega
    · rcases hb with z | z
      · contradiction
      · have := hT.1 nx (by omega) (by omega); omega
  refine ⟨?_, ⟨by omega, by omega, by omega⟩, fun k k0 k1 => ?_⟩
  · rcases hb with z | z
    · exact Or.inl z
    · exact Or.inr ⟨by omega, z.2⟩
  · have e : fdS σ o n t k (bAt σ V (-1) nx) = fdS σ o n t k 0 := by
      unfold bAt
      rw [if_neg (by omega)]
      refine fdS_gap (a := 0) (c := if nx = -1 then K else nx) hT (fun i i0 i1 => ?_) (by omega) (by omega) hv.2 (fun u i u0 u1 i0 i1 => ?_)
      · by_cases w : nx = -1
        · rw [if_pos w] at i1; exact ht.1 w i i0 i1
        · rw [if_neg w] at i1; exact ht.2 w i i0 i1
      · have q1 := hT.2.1 u i (by omega) (by omega) i0 i1
        refine ⟨by omega, ?_⟩
        unfold vAt at u1
        by_cases w : nx = -1
        · rw [if_pos w]; exact q1.2.1
        · rw [if_neg w]
          rw [if_neg w] at u1
          rcases hb with y | y
          · contradiction
          · have q3 := hT.1 nx (by omega) (by omega)
            have q4 := hT.2.2 u (σ.I 38 nx) (by omega) u1 q3.1.2
            omega
    rw [e, show fdS σ o n t k 0 = 0 from smP_0 _ _ _ (Int.le_refl _)]; omega
theorem LKV_e (h : LKV σ τ o n t K V x3 x4) (h0 : x4 < 0) : ∀ k, 0 ≤ k → k < 601 → τ.I (o + 23) (601 * σ.I (o + 21) n + k) = σ.I (o + 23) (601 * σ.I (o + 21) n + k) + fdS σ o n t k V := by
  obtain ⟨a, ⟨b1, b2, b3⟩, c⟩ := h
  intro k k0 k1
  rw [c k k0 k1]
  have : vAt σ V x4 = V := if_pos (by omega)
  unfold bAt
  rw [this, if_neg (by omega)]
end LKS
/-- what the looking at values writes -/
def wsLf (o : Nat) (r : Int) (c : Nat) (i : Int) : Prop := (c = o + 23 ∧ 601 * r ≤ i ∧ i < 601 * r + 601) ∨ (o + 31 ≤ c ∧ c ≤ o + 33)
abbrev KLf (o : Nat) (r : Int) (σ τ : Sto) : Prop := Ch (wsLf o r) σ τ
theorem KLf_rf {o : Nat} {r : Int} {σ : Sto} : KLf o r σ σ := Ch.rf
theorem KLf_of_KH {o : Nat} {r : Int} {σ τ : Sto} (h : KH o σ τ) : KLf o r σ τ := Ch.mono h (fun c i q => Or.inr q.1)
theorem KLf_rd {o : Nat} {r : Int} {σ τ : Sto} {F : Nat → Int → Int} (e1 : τ.R = σ.R) (s : τ.sh = σ.sh) (n : τ.n = σ.n) (e : τ.I = F) (h : ∀ c i, ¬ wsLf o r c i → F c i = σ.I c i) : KLf o r σ τ := ⟨⟨e1, s, n⟩, fun c i q => by rw [e]; exact h c i q⟩
theorem KLf_set {o : Nat} {r : Int} {σ τ : Sto} {a v : Int} (e1 : τ.R = σ.R) (s : τ.sh = σ.sh) (n : τ.n = σ.n) (e : τ.I = fun c i => if at2 c i (o + 23) a then v else σ.I c i) (ha : 601 * r ≤ a ∧ a < 601 * r + 601) : KLf o r σ τ := ⟨⟨e1, s, n⟩, fun c i q => by rw [e]; exact if_neg (fun z => q (Or.inl ⟨z.1, by rw [z.2]; exact ha⟩))⟩
theorem klf {o : Nat} {r : Int} {σ τ : Sto} (h : KLf o r σ τ) {c : Nat} (q : c < o + 23 ∨ (o + 23 < c ∧ c < o + 31) ∨ o + 33 < c) : τ.I c = σ.I c := funext fun i => h.2 c i (by unfold wsLf; omega)
theorem mtX_k {o : Nat} {r : Int} {σ τ : Sto} (h : KLf o r σ τ) (ho : 80 ≤ o) : mtX τ o = mtX σ o := by
  funext n v; unfold mtX
  have e : sxQ τ o n v = sxQ σ o n v := by
    funext p x; unfold sxQ sxP lxQ
    rw [klf h (c := 39) (by omega), klf h (c := 31) (by omega), klf h (c := 36) (by omega), klf h (c := 32) (by omega), klf h (c := o + 28) (by omega), klf h (c := o + 27) (by omega), klf h (c := o + 24) (by omega)]
  rw [e, klf h (c := o + 26) (by omega), klf h (c := o + 24) (by omega), klf h (c := o + 25) (by omega), klf h (c := o + 11) (by omega)]
theorem ftX_k {o : Nat} {r : Int} {σ τ : Sto} (h : KLf o r σ τ) (ho : 80 ≤ o) : ftX τ o = ftX σ o := by
  have e : fqX τ o = fqX σ o := by
    funext v k; unfold fqX
    rw [klf h (c := 31) (by omega), klf h (c := 36) (by omega), klf h (c := 32) (by omega), klf h (c := o + 28) (by omega)]
  funext n v; unfold ftX
  rw [e, klf h (c := o + 28) (by omega), klf h (c := o + 27) (by omega), klf h (c := o + 24) (by omega)]
/-- what a text leaf finds by one of its first place's terms -/
noncomputable def daS (σ : Sto) (o : Nat) (n m : Int) : Int := smP (fun j => σ.I 26 (σ.I 0 31 + j) = σ.I (o + 8) n) (fun j => mtX σ o n (σ.I 0 31 + j)) m
noncomputable def lfS (σ : Sto) (o : Nat) (n t V k : Int) : Int := if σ.I (o + 15) 8 = 0 then fdS σ o n t k V else if k = σ.I 0 39 ∧ t = σ.I (o + 28) (σ.I (o + 27) (σ.I (o + 24) n)) then daS σ o n (σ.I 0 20 - σ.I 0 31) else 0
def FDA (σ τ : Sto) (o : Nat) (n : Int) (g : Int → Int) : Prop := ∀ k, 0 ≤ k → k < 601 → τ.I (o + 23) (601 * σ.I (o + 21) n + k) = σ.I (o + 23) (601 * σ.I (o + 21) n + k) + g k
theorem FDA_set {σ τ υ : Sto} {o : Nat} {n b x : Int} {g : Int → Int} (h : FDA σ τ o n g) (hb : 0 ≤ b ∧ b < 601) (e : υ.I = fun c i => if at2 c i (o + 23) (601 * σ.I (o + 21) n + b) then τ.I (o + 23) (601 * σ.I (o + 21) n + b) + x else τ.I c i) : FDA σ υ o n (fun k => g k + if k = b then x else 0) := by
  intro k a c
  rw [e]
  show (if _ then _ else _) = _
  by_cases z : k = b
  · subst z; rw [if_pos ⟨rfl, rfl⟩, h k a c]; show _ = _ + (g k + if k = k then x else 0); rw [if_pos rfl]; omega
  · rw [if_neg (fun y => z (by have := y.2; omega)), h k a c]; show _ = _ + (g k + if k = b then x else 0); rw [if_neg z]; omega
theorem FDA_g {σ τ : Sto} {o : Nat} {n : Int} {g g' : Int → Int} (h : FDA σ τ o n g) (e : ∀ k, 0 ≤ k → k < 601 → g' k = g k) : FDA σ τ o n g' := fun k a b => by rw [h k a b, e k a b]

theorem sp_X5_lookFor {E : XE} {d : Nat} {σ : Sto} {K : Int} {V : Int} {o0 : Nat} {x1 : Int} {x2 : Int} (hd : 524 ≤ d) (hL : Lay σ) (ho0 : At5 σ o0) (p0 : o0 = 87 ∨ o0 = 121 ∨ o0 = 155) (p1 : 0 ≤ x1 ∧ x1 < 200) (p2 : bd_0_59 σ (o0 + 21) 200) (p3 : 0 ≤ x2 ∧ x2 < σ.I 18 7 ∧ σ.I 18 7 < 36500) (p4 : ¬ isWt σ x2) (p5 : PT σ K) (p6 : PW σ V) (p7 : OBV σ K V) (p8 : TVL σ K V) (p9 : DRV σ) (p10 : 0 ≤ σ.I 0 39 ∧ σ.I 0 39 < 601) (p11 : 0 ≤ σ.I (o0 + 11) x1 ∧ σ.I (o0 + 11) x1 ≤ 9) (p12 : 1 ≤ σ.I (o0 + 25) x1 ∧ σ.I (o0 + 25) x1 ≤ 16) (p13 : 0 ≤ σ.I (o0 + 24) x1 ∧ σ.I (o0 + 24) x1 ≤ 984) (p14 : bd_0_500 σ (o0 + 26) 1000) (p15 : bd_m1_15 σ (o0 + 32) 512) (p16 : bd_0_499 σ 39 24000) (p17 : TMI σ o0 x1) (p18 : ∀ v, 0 ≤ v → v < V → 0 ≤ σ.I 31 v ∧ 0 ≤ σ.I 32 v ∧ σ.I 31 v + σ.I 32 v ≤ 24000) (p19 : ∀ k, 0 ≤ k → k < 601 → 0 ≤ σ.I (o0 + 23) (601 * σ.I (o0 + 21) x1 + k) ∧ σ.I (o0 + 23) (601 * σ.I (o0 + 21) x1 + k) + lfS σ o0 x1 x2 V k ≤ 32767) (p20 : σ.I (o0 + 27) (σ.I (o0 + 24) x1) < 6000) : CC E mX5_lookFor d [aO o0, aI (x1), aI (x2)] σ (RV (fun τ => (FDA σ τ o0 x1 (lfS σ o0 x1 x2 V)) ∧ (bd_m1_15 τ (o0 + 32) 512) ∧ (KLf o0 (σ.I (o0 + 21) x1) σ τ))) := by sorry
end
section
/-! contracts: printed by tools/mk.py out of s94_txa.py -/
set_option maxRecDepth 100000
set_option maxHeartbeats 1200000
/-- a text leaf's places: what is laid down of the first j tokens (T: their terms, p: their positions) -/
noncomputable def kT (T : Int → Int) (j : Int) : Int := cn (fun i => 0 ≤ T i) j
theorem kT_s {T : Int → Int} {j : Int} (h : 0 ≤ j) : kT T (j + 1) = kT T j + zb (0 ≤ T j) := cn_s _ j (j + 1) h rfl
theorem kT_mo {T : Int → Int} {a b : Int} (h0 : 0 ≤ a) (h : a ≤ b) : kT T a ≤ kT T b := by
  obtain ⟨n, hn⟩ := Int.eq_ofNat_of_zero_le (show 0 ≤ b - a by omega)
  have e : b = a + n := by omega
  subst e
  clear hn h
  induction n with
  | zero => exact Int.le_of_eq (by congr 1; omega)
  | succ n ih =>
    have s := kT_s (T := T) (j := a + n) (by omega)
    rw [show a + ((n + 1 : Nat) : Int) = a + n + 1 by omega, s]
    rcases zb_cs (0 ≤ T (a + n)) with z | z <;> omega
theorem kT_in {T : Int → Int} {j : Int} (h : 0 ≤ j) : 0 ≤ kT T j ∧ kT T j ≤ j := by
  have := cn_in (fun i => 0 ≤ T i) j
  unfold kT; omega
/-- a token opens a place -/
def nwP (p : Int → Int) (j : Int) : Prop := j = 0 ∨ p j ≠ p (j - 1)
theorem nPl_st {p : Int → Int} {j : Int} (h : 0 ≤ j) : nPl p (j + 1) = nPl p j + zb (nwP p j) ∧ (nwP p j → rk p j = nPl p j) := by
  have h1 := nPl_s (p := p) (j := j) (m := j + 1) h rfl
  rcases (show j = 0 ∨ 0 < j by omega) with z | z
  · have h2 : nPl p j = 0 := if_pos (by omega)
    have h3 : rk p j = 0 := rk_0 (by omega)
    rw [show zb (nwP p j) = 1 from zb_t (Or.inl z)]; exact ⟨by omega, fun _ => by omega⟩
  · have h2 := nPl_e (p := p) z
    have h3 := rk_s (p := p) (j := j - 1) (m := j) (by omega) (by omega)
    by_cases w : p j = p (j - 1)
    · rw [if_pos w] at h3
      have hn : ¬ nwP p j := fun y => y.elim (fun y => by omega) (fun y => y w)
      rw [zb_f hn]; exact ⟨by omega, fun y => absurd y hn⟩
    · rw [if_neg w] at h3
      rw [show zb (nwP p j) = 1 from zb_t (Or.inr w)]; exact ⟨by omega, fun _ => by omega⟩
def TXA (σ τ : Sto) (o : Nat) (n : Int) (T p : Int → Int) (L j : Int) : Prop :=
  τ.I o 13 = σ.I o 13 + kT T j ∧ τ.I o 12 = σ.I o 12 + nPl p j ∧ τ.I (o + 25) n = nPl p j ∧
  (∀ q, 0 ≤ q → q < nPl p j → τ.I (o + 26) (σ.I o 12 + q) = pPl p L q ∧ τ.I (o + 27) (σ.I o 12 + q) = σ.I o 13 + kT T (fsF (fun i => rk p i = q) 0 L)) ∧
  (∀ i, 0 ≤ i → i < j → 0 ≤ T i → τ.I (o + 28) (σ.I o 13 + kT T i) = T i)
theorem TXA_0 {σ τ : Sto} {o : Nat} {n : Int} {T p : Int → Int} {L : Int} (h13 : τ.I o 13 = σ.I o 13) (h12 : τ.I o 12 = σ.I o 12) (h25 : τ.I (o + 25) n = 0) : TXA σ τ o n T p L 0 := by
  have e1 : kT T 0 = 0 := cn_0 _ _ (Int.le_refl _)
  have e2 : nPl p 0 = 0 := if_pos (Int.le_refl _)
  exact ⟨by omega, by omega, by omega, fun q a b => by omega, fun i a b => by omega⟩
theorem TXA_s {σ τ υ : Sto} {o : Nat} {n : Int} {T p : Int → Int} {L j : Int} (h : TXA σ τ o n T p L j) (hj : 0 ≤ j ∧ j < L)
    (c13 : υ.I o 13 = τ.I o 13 + zb (0 ≤ T j)) (c12 : υ.I o 12 = τ.I o 12 + zb (nwP p j)) (c25 : υ.I (o + 25) n = τ.I (o + 25) n + zb (nwP p j))
    (c26 : ∀ i, i < τ.I o 12 → υ.I (o + 26) i = τ.I (o + 26) i ∧ υ.I (o + 27) i = τ.I (o + 27) i)
    (cw : nwP p j → υ.I (o + 26) (τ.I o 12) = p j - p 0 ∧ υ.I (o + 27) (τ.I o 12) = τ.I o 13)
    (c28 : ∀ i, i < τ.I o 13 → υ.I (o + 28) i = τ.I (o + 28) i) (ck : 0 ≤ T j → υ.I (o + 28) (τ.I o 13) = T j) : TXA σ υ o n T p L (j + 1) := by
  obtain ⟨h1, h2, h3, h4, h5⟩ := h
  have k1 := kT_s (T := T) hj.1
  obtain ⟨n1, n2⟩ := nPl_st (p := p) hj.1
  refine ⟨by omega, by omega, by omega, fun q a b => ?_, fun i a b z => ?_⟩
  · rcases Int.lt_or_le q (nPl p j) with y | y
    · have e := c26 (σ.I o 12 + q) (by omega)
      rw [e.1, e.2]; exact h4 q a y
    · rcases zb_cs (nwP p j) with w | w
      · have hr := n2 w.1
        have hq : q = nPl p j := by omega
        have e := cw w.1
        have f := rk_first (p := p) (n := L) hj.1 hj.2 w.1
        rw [show σ.I o 12 + q = τ.I o 12 by omega, e.1, e.2, hq, ← hr, f, pPl_at hj.1 hj.2]
        exact ⟨rfl, h1⟩
      · omega
  · rcases (show i < j ∨ i = j by omega) with y | y
    · have m := kT_mo (T := T) (a := i + 1) (b := j) (by omega) (by omega)
      have s := kT_s (T := T) (j := i) a
      have zz : zb (0 ≤ T i) = 1 := zb_t z
      rw [c28 _ (by omega)]; exact h5 i a y z
    · subst y
      rw [← h1]; exact ck z
end
section
/-! contracts: printed by tools/mk.py out of s97a_parX0.py -/
set_option maxRecDepth 100000
set_option maxHeartbeats 1500000
/-! the reader's states -/
def PBX (σ : Sto) : Prop := (0 ≤ σ.I 80 1 ∧ σ.I 80 1 ≤ σ.I 80 2) ∧ (0 ≤ σ.I 65 3 ∧ σ.I 65 3 ≤ 60) ∧ (0 ≤ σ.I 65 2 ∧ σ.I 65 2 ≤ 2 * σ.I 65 3)
def XO (σ : Sto) (od : Int) (s : PS) : Prop := s.p = σ.I 80 1 ∧ s.on + od = σ.I 65 3 ∧ 0 ≤ s.nc
def OKX (σ τ : Sto) (od : Int) (c : PCt) (t y : Int) : Prop := ∀ s, XO σ od s → ∃ v s', RN (eX σ) c s v s' ∧ PO (eX σ) s s' v t ∧ XP (XG σ) (XG τ) (σ.I 65 2) (τ.I 65 2) s s' v y ∧ (τ.I 80 1 = s'.p ∧ τ.I 65 3 = s'.on)
def FTX (σ τ : Sto) (a : Nat) (od : Int) (c : PCt) : Prop := ∃ x, FT σ τ a x ∧ ∀ s, XO σ od s → RF (eX σ) c s x
def XLI (σ τ : Sto) (od : Int) (bs : PS → PS) (c : PCt) (ct : Int → Int → PCt) (t x z n kd fr pl : Int) (J : Int → Int → Int → Prop) : Prop := ∀ s, XO σ od s → ∃ f l s1, RT (eX σ) c s (ct f l) s1 ∧ LI (eX σ) (bs s) s1 f l t ∧ XL (XG σ) (XG τ) (σ.I 65 2) (τ.I 65 2) s s1 f l x z n kd fr ∧ (s1.p = pl ∧ τ.I 65 3 = s1.on) ∧ J f l pl
/-- the tables are the same; place and ones told -/
def SMX (σ ρ : Sto) (p o : Int) : Prop := XG ρ = XG σ ∧ ρ.I 65 2 = σ.I 65 2 ∧ ρ.I 80 1 = p ∧ ρ.I 65 3 = o ∧ eX ρ = eX σ
/-- a node more -/
def NDX (σ ρ : Sto) (kd m fr : Int) : Prop := (∀ c b, b ≠ σ.I 65 2 → XG ρ c b = XG σ c b) ∧ (XG ρ 0 (σ.I 65 2) = kd ∧ XG ρ 1 (σ.I 65 2) = m ∧ XG ρ 2 (σ.I 65 2) = -1 ∧ XG ρ 3 (σ.I 65 2) = 0 ∧ XG ρ 4 (σ.I 65 2) = 1 ∧ XG ρ 5 (σ.I 65 2) = 0 ∧ XG ρ 8 (σ.I 65 2) = fr) ∧ ρ.I 65 2 = σ.I 65 2 + 1 ∧ ρ.I 65 3 = σ.I 65 3
section XST
variable {σ ρ ω τ τ' : Sto} {od t u x y z n kd fr a p o m w pl : Int} {c cc : PCt} {ct ct' : Int → Int → PCt} {J J' : Int → Int → Int → Prop} {bs : PS → PS} {b : Nat}
theorem XG_o {a : Nat} {i v : Int} (h : τ = ρ.wI a i v) (ha : a < 67 ∨ 78 < a) : XG τ = XG ρ := by
  funext c k
  unfold XG
  by_cases q : c < 12
  · rw [if_pos q, if_pos q, h, I_wI]; exact if_neg (fun z => by have := z.1; omega)
  · rw [if_neg q, if_neg q]
theorem XG_w {d : Nat} {k v : Int} (h : τ = ρ.wI (67 + d) k v) (hd : d < 12) : (∀ c b, ¬ (c = d ∧ b = k) → XG τ c b = XG ρ c b) ∧ XG τ d k = v := by
  refine ⟨fun c b q => ?_, ?_⟩
  · unfold XG
    by_cases r : c < 12
    · rw [if_pos r, if_pos r, h, I_wI]; exact if_neg (fun z => q ⟨by have := z.1; omega, z.2⟩)
    · rw [if_neg r, if_neg r]
  · rw [XG_at hd, h]; exact I_same _ _ _ _
theorem XG_rd {v : Int} (h : τ.I = fun c i => if at2 c i 80 1 then v else ρ.I c i) : XG τ = XG ρ := by
  funext c k
  unfold XG
  by_cases q : c < 12
  · rw [if_pos q, if_pos q, h]; exact if_neg (fun z => by have := z.1; omega)
  · rw [if_neg q, if_neg q]
theorem SMX_rf : SMX σ σ (σ.I 80 1) (σ.I 65 3) := ⟨rfl, rfl, rfl, rfl, rfl⟩
theorem SMX_at (h : SMX σ ρ p o) (e : τ = ρ.wI 80 1 w) : SMX σ τ w o := by
  obtain ⟨h1, h2, h3, h4, h5⟩ := h
  have old : ∀ i, τ.I 65 i = ρ.I 65 i := fun i => by rw [e, I_wI]; exact if_neg (fun z => absurd z.1 (by decide))
  exact ⟨(XG_o e (by decide)).trans h1, (old 2).trans h2, by rw [e]; exact I_same _ _ _ _, (old 3).trans h4, (eX_k (KX_w e (by unfold wsX; omega))).trans h5⟩
theorem SMX_on (h : SMX σ ρ p o) (e : τ = ρ.wI 65 3 w) : SMX σ τ p w := by
  obtain ⟨h1, h2, h3, h4, h5⟩ := h
  exact ⟨(XG_o e (by decide)).trans h1, by rw [e, I_wI, if_neg (fun z => absurd z.2 (by decide))]; exact h2, by rw [e, I_wI, if_neg (fun z => absurd z.1 (by decide))]; exact h3, by rw [e]; exact I_same _ _ _ _, (eX_k (KX_w e (by unfold wsX; omega))).trans h5⟩
theorem SMX_rd (h : SMX σ ρ p o) (k : KX ρ τ) (e : τ.I = fun c i => if at2 c i 80 1 then w else ρ.I c i) : SMX σ τ w o := by
  obtain ⟨h1, h2, h3, h4, h5⟩ := h
  refine ⟨(XG_rd e).trans h1, ?_, ?_, ?_, (eX_k k).trans h5⟩
  · rw [e]; exact (if_neg (fun z => absurd z.1 (by decide))).trans h2
  · rw [e]; exact if_pos ⟨rfl, rfl⟩
  · rw [e]; exact (if_neg (fun z => absurd z.1 (by decide))).trans h4
theorem NDX_nd (e : τ.I = fun c i => if at2 c i 67 (ρ.I 65 2) then kd else if at2 c i 68 (ρ.I 65 2) then -1 else if at2 c i 69 (ρ.I 65 2) then -1 else if at2 c i 70 (ρ.I 65 2) then 0 else if at2 c i 71 (ρ.I 65 2) then 1 else if at2 c i 72 (ρ.I 65 2) then 0 else if at2 c i 75 (ρ.I 65 2) then 0 else if at2 c i 65 2 then ρ.I 65 2 + 1 else ρ.I c i) : NDX ρ τ kd (-1) 0 := by
  have ev : ∀ c i, τ.I c i = _ := fun c i => congrFun (congrFun e c) i
  refine ⟨fun c b hb => ?_, ⟨?_, ?_, ?_, ?_, ?_, ?_, ?_⟩, ?_, ?_⟩
  · unfold XG
    by_cases q : c < 12
    · rw [if_pos q, if_pos q, ev, if_neg (fun z => hb z.2), if_neg (fun z => hb z.2), if_neg (fun z => hb z.2), if_neg (fun z => hb z.2), if_neg (fun z => hb z.2), if_neg (fun z => hb z.2), if_neg (fun z => hb z.2), if_neg (fun z => by have := z.1; omega)]
    · rw [if_neg q, if_neg q]
  all_goals first | (rw [XG_at (by decide), ev]; simp [at2]) | (rw [ev]; simp [at2])
theorem NDX_m {v : Int} (h : NDX σ ρ kd m fr) (e : τ = ρ.wI 68 (σ.I 65 2) v) : NDX σ τ kd v fr := by
  obtain ⟨h1, ⟨r0, r1, r2, r3, r4, r5, r8⟩, h3, h5⟩ := h
  obtain ⟨w1, w2⟩ := XG_w (d := 1) e (by decide)
  have o65 : ∀ i, τ.I 65 i = ρ.I 65 i := fun i => by rw [e, I_wI]; exact if_neg (fun z => absurd z.1 (by decide))
  exact ⟨fun c b hb => (w1 c b (fun z => hb z.2)).trans (h1 c b hb), ⟨(w1 0 _ (by omega)).trans r0, w2, (w1 2 _ (by omega)).trans r2, (w1 3 _ (by omega)).trans r3, (w1 4 _ (by omega)).trans r4, (w1 5 _ (by omega)).trans r5, (w1 8 _ (by omega)).trans r8⟩, (o65 2).trans h3, (o65 3).trans h5⟩
theorem NDX_8 {v : Int} (h : NDX σ ρ kd m fr) (e : τ = ρ.wI 75 (σ.I 65 2) v) : NDX σ τ kd m v := by
  obtain ⟨h1, ⟨r0, r1, r2, r3, r4, r5, r8⟩, h3, h5⟩ := h
  obtain ⟨w1, w2⟩ := XG_w (d := 8) e (by decide)
  have o65 : ∀ i, τ.I 65 i = ρ.I 65 i := fun i => by rw [e, I_wI]; exact if_neg (fun z => absurd z.1 (by decide))
  exact ⟨fun c b hb => (w1 c b (fun z => hb z.2)).trans (h1 c b hb), ⟨(w1 0 _ (by omega)).trans r0, (w1 1 _ (by omega)).trans r1, (w1 2 _ (by omega)).trans r2, (w1 3 _ (by omega)).trans r3, (w1 4 _ (by omega)).trans r4, (w1 5 _ (by omega)).trans r5, w2⟩, (o65 2).trans h3, (o65 3).trans h5⟩
theorem NDX_r (h : NDX σ ρ kd m fr) (g : SMX ρ τ p (ρ.I 65 3)) : NDX σ τ kd m fr := by
  obtain ⟨h1, h2, h3, h5⟩ := h
  obtain ⟨m1, m2, m3, m4, m5⟩ := g
  exact ⟨fun c b hb => by rw [m1]; exact h1 c b hb, by rw [m1]; exact h2, m2.trans h3, m4.trans h5⟩
theorem NDX_l (g : SMX σ ρ p (σ.I 65 3)) (h : NDX ρ τ kd m fr) : NDX σ τ kd m fr := by
  obtain ⟨h1, h2, h3, h5⟩ := h
  obtain ⟨m1, m2, m3, m4, m5⟩ := g
  rw [m2] at h1 h2 h3
  rw [m1] at h1
  exact ⟨h1, h2, h3, h5.trans m4⟩
theorem PO_nn {e : PE} {s s' : PS} {v t : Int} (h : PO e s s' v t) : s.nc ≤ s'.nc := h.1.1
/-- bounds behind a part that was read -/
theorem PBX_ok (h : OKX σ τ 0 c t y) (g : PBX σ) (k : eX σ = eX τ) (h0 : 0 ≤ σ.I 65 3) : PBX τ := by
  obtain ⟨v, s', h1, h2, h3, h4, h5⟩ := h ⟨σ.I 80 1, σ.I 65 3, 0, fun _ _ => 0⟩ ⟨rfl, by show σ.I 65 3 + 0 = _; omega, Int.le_refl _⟩
  have a1 : σ.I 80 1 < s'.p := h2.2.2.2.1.1
  have a2 : s'.p ≤ σ.I 80 2 := h2.2.2.2.1.2
  have a3 : σ.I 65 3 < s'.on := h2.2.2.2.2.2.1.1
  have a4 : s'.on ≤ 60 := h2.2.2.2.2.2.1.2.1
  have a5 : s'.nc - 0 ≤ 2 * (s'.on - σ.I 65 3) - 1 := h2.2.2.2.2.2.1.2.2
  have a6 : τ.I 65 2 = σ.I 65 2 + (s'.nc - 0) := h3.1
  have a7 : (0 : Int) ≤ s'.nc := h2.1.1
  have e2 : σ.I 80 2 = τ.I 80 2 := congrArg PE.n k
  unfold PBX at g ⊢
  omega
theorem PBX_sm (h : SMX σ ρ p o) (g : PBX σ) (hp : 0 ≤ p ∧ p ≤ σ.I 80 2) (ho : σ.I 65 3 ≤ o ∧ o ≤ 60) : PBX ρ := by
  obtain ⟨h1, h2, h3, h4, h5⟩ := h
  have e2 : ρ.I 80 2 = σ.I 80 2 := congrArg PE.n h5
  unfold PBX at g ⊢
  omega
/-! any, best, all: one alone -/
theorem OKX_lift (h : OKX σ τ 0 cc t y) (H : ∀ s v s', s.p = σ.I 80 1 → s'.p = τ.I 80 1 → s'.T 3 v = XG τ 3 y → RN (eX σ) cc s v s' → RN (eX σ) c s v s') : OKX σ τ 0 c t y := by
  intro s hs
  obtain ⟨v, s', h1, h2, h3, h4⟩ := h s hs
  exact ⟨v, s', H s v s' hs.1 h4.1.symm h3.2.2.1.2.1.2.1.symm h1, h2, h3, h4⟩
theorem FTX_lift (h : FTX σ τ b 0 cc) (H : ∀ s x, s.p = σ.I 80 1 → RF (eX σ) cc s x → RF (eX σ) c s x) : FTX σ τ b 0 c := by
  obtain ⟨x, h1, h2⟩ := h
  exact ⟨x, h1, fun s hs => H s x hs.1 (h2 s hs)⟩
/-- a chain starts: the first one read; X makes its node n, or none yet -/
theorem XLI_0 (h : OKX σ τ 0 cc t y) (H : ∀ s v s', s'.T 3 v = XG τ 3 y → RN (eX σ) cc s v s' → RT (eX σ) c s (ct v v) s') (hJ : ∀ f, J f f (τ.I 80 1)) : XLI σ τ 0 (fun s => s) c ct t y y (-1) kd fr (τ.I 80 1) J := by
  intro s hs
  obtain ⟨v, s', h1, h2, h3, h4⟩ := h s hs
  exact ⟨v, v, s', H s v s' h3.2.2.1.2.1.2.1.symm h1, LI_one h2, XL.start h3, ⟨h4.1.symm, h4.2⟩, hJ v⟩
theorem XLI_n (h : XLI σ ρ od bs c ct t x z (-1) kd fr pl J) (hN : 0 ≤ σ.I 65 2) (hn : NDX ρ τ kd x fr) (hJ : ∀ f l, J f l pl → J' f l pl) : XLI σ τ od bs c ct t x z (ρ.I 65 2) kd fr pl J' := by
  intro s hs
  obtain ⟨f, l, s1, h1, h2, h3, h4, h5⟩ := h s hs
  obtain ⟨n1, n2, n3, n5⟩ := hn
  exact ⟨f, l, s1, h1, h2, by rw [n3]; exact h3.alloc hN n1 n2, ⟨h4.1, by rw [n5]; exact h4.2⟩, hJ f l h5⟩
theorem XLI_mv (h : XLI σ τ od bs c ct t x z n kd fr pl J) (hm : SMX τ ρ p (τ.I 65 3)) : XLI σ ρ od bs c ct t x z n kd fr pl J := by
  intro s hs
  obtain ⟨f, l, s1, h1, h2, h3, h4, h5⟩ := h s hs
  obtain ⟨m1, m2, m3, m4, m5⟩ := hm
  exact ⟨f, l, s1, h1, h2, by rw [m1, m2]; exact h3, ⟨h4.1, by rw [m4]; exact h4.2⟩, h5⟩
/-- the place moved: it is told with the next one -/
theorem XLI_app (h : XLI σ ρ od bs c ct t x z n kd fr pl J) (hN : 0 ≤ σ.I 65 2) (hp : ρ.I 80 1 = pl + 1) (e : eX ρ = eX σ) (g : OKX ρ ω 0 cc u y) (hu : u ≤ t) (hw : τ' = ω.wI 69 z y)
    (H : ∀ s f l s1 v s2, s1.p = pl → s2.T 3 v = XG ω 3 y → RT (eX σ) c s (ct f l) s1 → RN (eX σ) cc (s1.to (s1.p + 1)) v s2 → RT (eX σ) c s (ct' f v) (s2.up 2 l v)) (hJ : ∀ f l p, f ≠ l → J' f l p) : XLI σ τ' od bs c ct' t x y n kd fr (τ'.I 80 1) J' := by
  intro s hs
  obtain ⟨f, l, s1, h1, h2, h3, h4, h5⟩ := h s hs
  have nn : 0 ≤ s1.nc := by have := hs.2.2; have := h3.b; omega
  obtain ⟨v, s2, g1, g2, g3, g4⟩ := g (s1.to (s1.p + 1)) ⟨by rw [hp, ← h4.1]; rfl, by rw [h4.2]; show s1.on + 0 = s1.on; omega, nn⟩
  rw [e] at g1 g2
  obtain ⟨w1, w2⟩ := XG_w (d := 2) hw (by decide)
  have o65 : ∀ i, τ'.I 65 i = ω.I 65 i := fun i => by rw [hw, I_wI]; exact if_neg (fun z => absurd z.1 (by decide))
  have o80 : τ'.I 80 1 = ω.I 80 1 := by rw [hw, I_wI]; exact if_neg (fun z => absurd z.1 (by decide))
  have hb := h3.b
  have gb := g3.b
  have gb1 : s1.nc ≤ v := gb.1.1
  refine ⟨f, v, s2.up 2 l v, H s f l s1 v s2 h4.1 g3.2.2.1.2.1.2.1.symm h1 g1, LI_app h2 g2 hu, ?_, ⟨by rw [o80]; exact g4.1.symm, by rw [o65]; exact g4.2⟩, hJ _ _ _ (by omega)⟩
  rw [o65]; exact h3.app hN (fun c k hk => g2.1.2 c k hk) g3 w1 w2
theorem FTX_app (h : XLI σ ρ od bs c ct t x z n kd fr pl J) (kk : KX σ ρ) (hp : ρ.I 80 1 = pl + 1) (g : FTX ρ ω b 0 cc)
    (H : ∀ s f l s1 x', s1.p = pl → RT (eX σ) c s (ct f l) s1 → RF (eX σ) cc (s1.to (s1.p + 1)) x' → RF (eX σ) c s x') : FTX σ ω b od c := by
  obtain ⟨x', g1, g2⟩ := g
  refine ⟨x', FT.tr kk g1, fun s hs => ?_⟩
  obtain ⟨f, l, s1, h1, h2, h3, h4, h5⟩ := h s hs
  have nn : 0 ≤ s1.nc := by have := hs.2.2; have := h3.b; omega
  have q := g2 (s1.to (s1.p + 1)) ⟨by rw [hp, ← h4.1]; rfl, by rw [h4.2]; show s1.on + 0 = s1.on; omega, nn⟩
  rw [eX_k kk] at q
  exact H s f l s1 x' h4.1 h1 q
/-- the chain ends -/
theorem XLI_fin (h : XLI σ τ 0 (fun s => s) c ct t x z n kd 0 (τ.I 80 1) J) (hN : 0 ≤ σ.I 65 2) (hn : n ≠ -1) (hk : 0 ≤ kd ∧ kd ≤ 5) (ht : 1 ≤ t) (H : ∀ s f l s1, s1.p = τ.I 80 1 → RT (eX σ) c s (ct f l) s1 → RN (eX σ) c s (jn kd f l s1).1 (jn kd f l s1).2) (hJ : ∀ f l, J f l (τ.I 80 1) → f ≠ l) : OKX σ τ 0 c t n := by
  intro s hs
  obtain ⟨f, l, s1, h1, h2, h3, h4, h5⟩ := h s hs
  have hfl : f ≠ l := hJ f l h5
  have ej : jn kd f l s1 = (s1.nc, s1.ad s1.p (rowN kd f 0)) := if_neg hfl
  have q1 := H s f l s1 h4.1 h1
  have q2 := PO_jn (kd := kd) h2 hk ht
  rw [ej] at q1 q2
  exact ⟨_, _, q1, q2, h3.fin hn hN hk (Or.inr rfl), ⟨h4.1.symm, h4.2⟩⟩
theorem XLI_fin0 (h : XLI σ τ 0 (fun s => s) c ct t x z (-1) kd fr (τ.I 80 1) J) (hk : 0 ≤ kd ∧ kd ≤ 5) (ht : 1 ≤ t) (H : ∀ s f l s1, s1.p = τ.I 80 1 → RT (eX σ) c s (ct f l) s1 → RN (eX σ) c s (jn kd f l s1).1 (jn kd f l s1).2) (hJ : ∀ f l, J f l (τ.I 80 1) → f = l) : OKX σ τ 0 c t x := by
  intro s hs
  obtain ⟨f, l, s1, h1, h2, h3, h4, h5⟩ := h s hs
  have hfl : f = l := hJ f l h5
  have ej : jn kd f l s1 = (f, s1) := if_pos hfl
  have q1 := H s f l s1 h4.1 h1
  have q2 := PO_jn (kd := kd) h2 hk ht
  rw [ej] at q1 q2
  exact ⟨_, _, q1, q2, h3.fin0 hfl, ⟨h4.1.symm, h4.2⟩⟩
theorem FTX_fin (h : XLI σ τ od bs c ct t x z n kd fr (τ.I 80 1) J) (k : KX σ τ) (g : FT τ ω b w) (H : ∀ s f l s1, s1.p = τ.I 80 1 → RT (eX σ) c s (ct f l) s1 → RF (eX σ) c s w) : FTX σ ω b od c := by
  refine ⟨w, FT.tr k g, fun s hs => ?_⟩
  obtain ⟨f, l, s1, h1, h2, h3, h4, h5⟩ := h s hs
  exact H s f l s1 h4.1 h1
theorem PBX_li (h : XLI σ τ od bs c ct t x z n kd fr pl J) (hpl : τ.I 80 1 = pl ∨ (τ.I 80 1 = pl + 1 ∧ pl < σ.I 80 2)) (g : PBX σ) (k : eX σ = eX τ) (ho : ∀ s, (bs s).nc = s.nc ∧ (bs s).on = s.on + od ∧ (bs s).p = s.p) : PBX τ ∧ (0 ≤ x ∧ x < τ.I 65 2) ∧ (0 ≤ z ∧ z < τ.I 65 2) ∧ (n ≠ -1 → 0 ≤ n ∧ n < τ.I 65 2) := by
  obtain ⟨f, l, s1, h1, h2, h3, h4, h5⟩ := h ⟨σ.I 80 1, σ.I 65 3 - od, 0, fun _ _ => 0⟩ ⟨rfl, by show σ.I 65 3 - od + od = _; omega, Int.le_refl _⟩
  have hb := h3.b
  obtain ⟨b1, b2, b3⟩ := ho ⟨σ.I 80 1, σ.I 65 3 - od, 0, fun _ _ => 0⟩
  have a2 : s1.p ≤ σ.I 80 2 := h2.2.2.2.1.2
  have a1 := h2.2.2.2.1.1
  rw [b3] at a1
  have a1 : σ.I 80 1 < s1.p := a1
  have a3 := h2.2.2.2.2.2.1
  rw [b1, b2] at a3
  have a3a : σ.I 65 3 - od + od < s1.on := a3.1
  have a3b : s1.on ≤ 60 := a3.2.1
  have a3c : s1.nc - 0 ≤ 2 * (s1.on - (σ.I 65 3 - od + od)) - 1 - (if f = l then 0 else 1) := a3.2.2
  have a6 : τ.I 65 2 = σ.I 65 2 + (s1.nc - 0) + (if n = -1 then 0 else 1) := h3.1
  have e2 : σ.I 80 2 = τ.I 80 2 := congrArg PE.n k
  have hp1 : s1.p = pl := h4.1
  have ho1 : τ.I 65 3 = s1.on := h4.2
  have hnn : n ≠ -1 → σ.I 65 2 ≤ n ∧ n < τ.I 65 2 := fun q => (h3.2.2.2.2.2 q).1
  have a3d : s1.nc - 0 ≤ 2 * (s1.on - (σ.I 65 3 - od + od)) - 1 := by split at a3c <;> omega
  have a6' : τ.I 65 2 ≤ σ.I 65 2 + (s1.nc - 0) + 1 ∧ σ.I 65 2 + (s1.nc - 0) ≤ τ.I 65 2 := by split at a6 <;> omega
  have hz : (0 : Int) ≤ s1.nc := by have q0 : (0 : Int) ≤ f := hb.1.1; have := hb.1.2; omega
  unfold PBX at g ⊢
  refine ⟨⟨?_, ?_, ?_⟩, ?_, ?_, fun q => ?_⟩ <;> first | omega | (have := hnn q; omega)
/-! one -/
section ONX
theorem XO_b (h1 : bgn (hc (eX σ) (σ.I 80 1))) (h2 : ¬ (σ.I 65 3 = 60 ∨ 11 < a)) {s : PS} (hs : XO σ 0 s) : bgn (hc (eX σ) s.p) ∧ ¬ (s.on = 60 ∨ 11 < a) := by
  have e : s.on = σ.I 65 3 := by have := hs.2.1; omega
  rw [hs.1, e]; exact ⟨h1, h2⟩
theorem XO_o1 (h1 : bgn (hc (eX σ) (σ.I 80 1))) (h2 : ¬ (σ.I 65 3 = 60 ∨ 11 < a)) {s : PS} (hs : XO σ 0 s) (hm : SMX σ ρ (σ.I 80 1 + 1) (σ.I 65 3 + 1)) : XO ρ 0 (s.o1.to (s.p + 1)) := by
  obtain ⟨m1, m2, m3, m4, m5⟩ := hm
  exact ⟨by rw [m3]; show s.p + 1 = _; rw [hs.1], by rw [m4]; show s.on + 1 + 0 = _; have := hs.2.1; omega, hs.2.2⟩
theorem OKX_par (h1 : bgn (hc (eX σ) (σ.I 80 1))) (h2 : ¬ (σ.I 65 3 = 60 ∨ 11 < a)) (hh : hc (eX σ) (σ.I 80 1) = 40) (hm : SMX σ ρ (σ.I 80 1 + 1) (σ.I 65 3 + 1)) (g : OKX ρ ω 0 (.any (a + 1)) t y) (hz : hc (eX σ) (ω.I 80 1) = 41) (hn : SMX ω τ (ω.I 80 1 + 1) (ω.I 65 3)) (ht : t ≤ u) (hlt : ω.I 80 1 < σ.I 80 2) : OKX σ τ 0 (.one a) u y := by
  intro s hs
  obtain ⟨v, s', g1, g2, g3, g4⟩ := g _ (XO_o1 h1 h2 hs hm)
  obtain ⟨m1, m2, m3, m4, m5⟩ := hm
  obtain ⟨n1, n2, n3, n4, n5⟩ := hn
  obtain ⟨b1, b2⟩ := XO_b h1 h2 hs
  rw [m5] at g1 g2
  rw [m1, m2] at g3
  refine ⟨v, s'.to (s'.p + 1), RN_o3 b1 b2 (by rw [hs.1]; exact hh) g1 (by rw [← g4.1]; exact hz), PO_par g2 (by rw [← g4.1]; exact hlt) ht, by rw [n1, n2]; exact g3, by rw [n3, g4.1]; rfl, by rw [n4]; exact g4.2⟩
theorem FTX_par1 (h1 : bgn (hc (eX σ) (σ.I 80 1))) (h2 : ¬ (σ.I 65 3 = 60 ∨ 11 < a)) (hh : hc (eX σ) (σ.I 80 1) = 40) (k : KX σ ρ) (hm : SMX σ ρ (σ.I 80 1 + 1) (σ.I 65 3 + 1)) (g : FTX ρ τ b 0 (.any (a + 1))) : FTX σ τ b 0 (.one a) := by
  obtain ⟨x, g1, g2⟩ := g
  refine ⟨x, FT.tr k g1, fun s hs => ?_⟩
  have q := g2 _ (XO_o1 h1 h2 hs hm)
  obtain ⟨b1, b2⟩ := XO_b h1 h2 hs
  rw [hm.2.2.2.2] at q
  exact RF_o4 b1 b2 (by rw [hs.1]; exact hh) q
theorem FTX_par2 (h1 : bgn (hc (eX σ) (σ.I 80 1))) (h2 : ¬ (σ.I 65 3 = 60 ∨ 11 < a)) (hh : hc (eX σ) (σ.I 80 1) = 40) (k : KX σ ω) (hm : SMX σ ρ (σ.I 80 1 + 1) (σ.I 65 3 + 1)) (g : OKX ρ ω 0 (.any (a + 1)) t y) (hz : hc (eX σ) (ω.I 80 1) ≠ 41) (gf : FT ω τ b (-10 - ω.I 80 1)) : FTX σ τ b 0 (.one a) := by
  refine ⟨_, FT.tr k gf, fun s hs => ?_⟩
  obtain ⟨v, s', g1, g2, g3, g4⟩ := g _ (XO_o1 h1 h2 hs hm)
  obtain ⟨b1, b2⟩ := XO_b h1 h2 hs
  rw [hm.2.2.2.2] at g1
  rw [g4.1]
  exact RF_o3 b1 b2 (by rw [hs.1]; exact hh) g1 (by rw [← g4.1]; exact hz)
theorem OKX_up (h1 : bgn (hc (eX σ) (σ.I 80 1))) (h2 : ¬ (σ.I 65 3 = 60 ∨ 11 < a)) {ch : Int} (hch : ch = 62 ∧ kd = 4 ∨ ch = 60 ∧ kd = 5) (hN : 0 ≤ σ.I 65 2) (hh : hc (eX σ) (σ.I 80 1) = ch) (hm : SMX σ ρ (σ.I 80 1 + 1) (σ.I 65 3 + 1)) {ρ' : Sto} (hd : NDX ρ ρ' kd (-1) 0) (d4 : ρ'.I 80 1 = ρ.I 80 1) (k : eX ρ' = eX ρ) (g : OKX ρ' ω 0 (.one (a + 1)) t y) (hw : τ = ω.wI 68 (σ.I 65 2) y) (ht : 1 ≤ u) : OKX σ τ 0 (.one a) u (σ.I 65 2) := by
  intro s hs
  have hx := XO_o1 h1 h2 hs hm
  obtain ⟨m1, m2, m3, m4, m5⟩ := hm
  obtain ⟨d1, ⟨r0, r1, r2, r3, r4, r5, r8⟩, d3, d5⟩ := hd
  obtain ⟨v, s', g1, g2, g3, g4⟩ := g (s.o1.to (s.p + 1)) ⟨by rw [d4]; exact hx.1, by rw [d5]; exact hx.2.1, hx.2.2⟩
  obtain ⟨b1, b2⟩ := XO_b h1 h2 hs
  rw [k, m5] at g1 g2
  rw [d3, m2] at g3
  rw [m1, m2] at d1
  rw [m2] at r0 r2 r3 r4 r5 r8
  obtain ⟨w1, w2⟩ := XG_w (d := 1) hw (by decide)
  have o65 : ∀ i, τ.I 65 i = ω.I 65 i := fun i => by rw [hw, I_wI]; exact if_neg (fun z => absurd z.1 (by decide))
  have o80 : τ.I 80 1 = ω.I 80 1 := by rw [hw, I_wI]; exact if_neg (fun z => absurd z.1 (by decide))
  have hl : XL (XG σ) (XG τ) (σ.I 65 2) (ω.I 65 2) s s' v v y y (σ.I 65 2) kd 0 := XL.head g3 rfl hN d1 w1 w2 ⟨r0, r2, r3, r4, r5, r8⟩
  refine ⟨_, s'.ad s'.p (rowN kd v 0), ?_, PO_up g2 (by omega) ht, by rw [o65]; exact hl.fin (by omega) hN (by omega) (Or.inr rfl), by rw [o80]; exact g4.1, by rw [o65]; exact g4.2⟩
  rcases hch with ⟨rfl, rfl⟩ | ⟨rfl, rfl⟩
  · exact RN_o8 b1 b2 (by rw [hs.1]; exact hh) g1
  · exact RN_o9 b1 b2 (by rw [hs.1]; exact hh) g1
theorem FTX_up (h1 : bgn (hc (eX σ) (σ.I 80 1))) (h2 : ¬ (σ.I 65 3 = 60 ∨ 11 < a)) {ch : Int} (hch : ch = 62 ∨ ch = 60) (hh : hc (eX σ) (σ.I 80 1) = ch) (hm : SMX σ ρ (σ.I 80 1 + 1) (σ.I 65 3 + 1)) {ρ' : Sto} (hd : NDX ρ ρ' kd (-1) 0) (d4 : ρ'.I 80 1 = ρ.I 80 1) (k : eX ρ' = eX ρ) (kk : KX σ ρ') (g : FTX ρ' τ b 0 (.one (a + 1))) : FTX σ τ b 0 (.one a) := by
  obtain ⟨x, g1, g2⟩ := g
  refine ⟨x, FT.tr kk g1, fun s hs => ?_⟩
  have hx := XO_o1 h1 h2 hs hm
  obtain ⟨d1, -, d3, d5⟩ := hd
  have q := g2 (s.o1.to (s.p + 1)) ⟨by rw [d4]; exact hx.1, by rw [d5]; exact hx.2.1, hx.2.2⟩
  obtain ⟨b1, b2⟩ := XO_b h1 h2 hs
  rw [k, hm.2.2.2.2] at q
  rcases hch with rfl | rfl
  · exact RF_o8 b1 b2 (by rw [hs.1]; exact hh) q
  · exact RF_o9 b1 b2 (by rw [hs.1]; exact hh) q
theorem OKX_star (h1 : bgn (hc (eX σ) (σ.I 80 1))) (h2 : ¬ (σ.I 65 3 = 60 ∨ 11 < a)) (hN : 0 ≤ σ.I 65 2) (hh : hc (eX σ) (σ.I 80 1) = 42) (hp : ¬ ptb (hc (eX σ) (σ.I 80 1 + 1))) (hm : SMX σ ρ (σ.I 80 1 + 1) (σ.I 65 3 + 1)) (hd : NDX ρ τ 6 (-1) 0) (d4 : τ.I 80 1 = ρ.I 80 1) (ht : 1 ≤ u) (hlt : σ.I 80 1 < σ.I 80 2) (h60 : σ.I 65 3 < 60) : OKX σ τ 0 (.one a) u (σ.I 65 2) := by
  intro s hs
  obtain ⟨m1, m2, m3, m4, m5⟩ := hm
  obtain ⟨d1, ⟨r0, r1, r2, r3, r4, r5, r8⟩, d3, d5⟩ := hd
  obtain ⟨b1, b2⟩ := XO_b h1 h2 hs
  rw [m1, m2] at d1
  rw [m2] at r0 r1 r2 r3 r4 r5 r8 d3
  have hon : s.on = σ.I 65 3 := by have := hs.2.1; omega
  have hn6 : NOr (eX σ) s.p (s.p + 1) (rowN 6 (-1) 0) := ⟨⟨by decide, by decide, fun z => absurd z (by decide), by decide, by decide, by decide⟩, ⟨by decide, fun z => absurd z (by unfold lfk; decide), by decide, by decide⟩, by decide, ⟨by decide, by decide⟩, fun z => absurd z (by decide), fun z => absurd z (by decide), fun z => absurd z (by decide), fun z => absurd z (by decide), fun z => absurd z (by decide)⟩
  refine ⟨s.nc, s.o1.ad (s.p + 1) (rowN 6 (-1) 0), RN_o10 b1 b2 (by rw [hs.1]; exact hh) (by rw [hs.1]; exact hp), PO_new hs.2.2 hn6 rfl rfl rfl ⟨by omega, by rw [hs.1]; show σ.I 80 1 + 1 ≤ σ.I 80 2; omega⟩ (by omega) ht, ?_, by rw [d4, m3]; show _ = s.p + 1; rw [hs.1], by rw [d5, m4]; show _ = s.on + 1; omega⟩
  rw [d3]
  refine XP.new (s1 := s.o1) hN rfl d1 ?_ rfl rfl r1 r2
  unfold RX
  rw [ad_on, ad_on, ad_on, ad_on, ad_on, ad_on, ad_on, ad_on, ad_on, ad_on, r0, r3, r4, r5, r8]
  exact ⟨rfl, rfl, rfl, rfl, rfl, fun q => by have q : lfk 6 := q; unfold lfk at q; omega, fun q => by have q : (6 : Int) = 9 ∨ (6 : Int) = 10 := q; omega, fun q => by have q : (6 : Int) = 10 := q; omega⟩
theorem OKX_leaf (h1 : bgn (hc (eX σ) (σ.I 80 1))) (h2 : ¬ (σ.I 65 3 = 60 ∨ 11 < a)) {f : Int} (hN : 0 ≤ σ.I 65 2) (hne : hc (eX σ) (σ.I 80 1) ≠ 40 ∧ hc (eX σ) (σ.I 80 1) ≠ 123 ∧ hc (eX σ) (σ.I 80 1) ≠ 62 ∧ hc (eX σ) (σ.I 80 1) ≠ 60) (h42 : hc (eX σ) (σ.I 80 1) = 42 → ptb (hc (eX σ) (σ.I 80 1 + 1))) (hf : f = fhF (eX σ) (σ.I 80 1)) (hm : SMX σ ρ (fhP (eX σ) (σ.I 80 1)) (σ.I 65 3 + 1)) (hl : LFX ρ τ (lfR (eX ρ) f (ρ.I 80 1)) f) (hc2 : τ.I 65 2 = ρ.I 65 2 + 1 ∧ τ.I 65 3 = ρ.I 65 3) (ht : 1 ≤ u) (h0 : 0 ≤ σ.I 80 1 ∧ σ.I 80 1 ≤ σ.I 80 2) (h12 : σ.I 0 9 ≤ 12) (h60 : σ.I 65 3 < 60) : OKX σ τ 0 (.one a) u (σ.I 65 2) := by
  intro s hs
  obtain ⟨m1, m2, m3, m4, m5⟩ := hm
  obtain ⟨b1, b2⟩ := XO_b h1 h2 hs
  obtain ⟨l, l1, l2, l3, l4, l5, l6⟩ := hl
  rw [m5, m3, hf] at l1
  rw [m2] at l3 l4 l5 l6
  rw [m1] at l6
  have hon : s.on = σ.I 65 3 := by have := hs.2.1; omega
  have hfb := fh_b (e := eX σ) (p := σ.I 80 1) h0.1 h0.2
  have hwf := lfR_wf l1 (by omega) h12
  refine ⟨s.nc, s.o1.ad l.p (rowL l (fhF (eX σ) s.p)), RN_lf b1 b2 (by rw [hs.1]; exact hne) (by rw [hs.1]; exact h42) (by rw [hs.1]; exact l1), PO_new hs.2.2 (by rw [hs.1]; exact hwf.2.mv hfb.1.1 (Int.le_refl _)) rfl rfl rfl (by rw [hs.1]; have := hwf.1; omega) (by omega) ht, ?_, l2, by rw [hc2.2, m4]; show _ = s.on + 1; omega⟩
  rw [hc2.1, m2]
  exact XP.new (s1 := s.o1) hN rfl l6 (l3 _ _ (fun c => by rw [ad_on, hf, hs.1])) rfl rfl l4 l5
theorem FTX_leaf (h1 : bgn (hc (eX σ) (σ.I 80 1))) (h2 : ¬ (σ.I 65 3 = 60 ∨ 11 < a)) {f : Int} (hne : hc (eX σ) (σ.I 80 1) ≠ 40 ∧ hc (eX σ) (σ.I 80 1) ≠ 123 ∧ hc (eX σ) (σ.I 80 1) ≠ 62 ∧ hc (eX σ) (σ.I 80 1) ≠ 60) (h42 : hc (eX σ) (σ.I 80 1) = 42 → ptb (hc (eX σ) (σ.I 80 1 + 1))) (hf : f = fhF (eX σ) (σ.I 80 1)) (hm : SMX σ ρ (fhP (eX σ) (σ.I 80 1)) (σ.I 65 3 + 1)) (k : KX σ ρ) (hl : FTR ρ τ b (lfR (eX ρ) f (ρ.I 80 1))) : FTX σ τ b 0 (.one a) := by
  obtain ⟨x, l1, l2⟩ := hl
  refine ⟨x, FT.tr k l2, fun s hs => ?_⟩
  obtain ⟨m1, m2, m3, m4, m5⟩ := hm
  obtain ⟨b1, b2⟩ := XO_b h1 h2 hs
  rw [m5, m3, hf] at l1
  exact RF_lf b1 b2 (by rw [hs.1]; exact hne) (by rw [hs.1]; exact h42) (by rw [hs.1]; exact l1)
end ONX
theorem OKX_od (hm : SMX σ ρ (σ.I 80 1) (σ.I 65 3 + 1)) (g : OKX ρ τ 1 c t y) : OKX σ τ 0 c t y := by
  intro s hs
  obtain ⟨m1, m2, m3, m4, m5⟩ := hm
  obtain ⟨v, s', g1, g2, g3, g4⟩ := g s ⟨by rw [m3]; exact hs.1, by rw [m4]; have := hs.2.1; omega, hs.2.2⟩
  rw [m5] at g1 g2
  rw [m1, m2] at g3
  exact ⟨v, s', g1, g2, g3, g4⟩
theorem FTX_od (hm : SMX σ ρ (σ.I 80 1) (σ.I 65 3 + 1)) (k : KX σ ρ) (g : FTX ρ τ b 1 c) : FTX σ τ b 0 c := by
  obtain ⟨x, g1, g2⟩ := g
  obtain ⟨m1, m2, m3, m4, m5⟩ := hm
  refine ⟨x, FT.tr k g1, fun s hs => ?_⟩
  have q := g2 s ⟨by rw [m3]; exact hs.1, by rw [m4]; have := hs.2.1; omega, hs.2.2⟩
  rw [m5] at q
  exact q
/-- part: the sign, the boost -/
theorem OKX_pt {sg : Int} (hm : SMX σ ρ (if 0 < sg then σ.I 80 1 + 1 else σ.I 80 1) (σ.I 65 3)) (hsg : sg = sgn (eX σ) x (σ.I 80 1)) (h2 : 0 ≤ sg ∧ sg ≤ 2) (g : OKX ρ ω 0 (.one a) t y) (hw : τ = ω.wI 70 y sg) (hh : hc (eX σ) (ω.I 80 1) ≠ 94) (ht : t ≤ u) : OKX σ τ 0 (.part a x) u y := by
  intro s hs
  obtain ⟨m1, m2, m3, m4, m5⟩ := hm
  have hq : (if 0 < sgn (eX σ) x s.p then s.p + 1 else s.p) = if 0 < sg then σ.I 80 1 + 1 else σ.I 80 1 := by rw [hs.1, ← hsg]
  obtain ⟨v, s', g1, g2, g3, g4⟩ := g (s.to (if 0 < sgn (eX σ) x s.p then s.p + 1 else s.p)) ⟨by rw [m3]; exact hq, by rw [m4]; exact hs.2.1, hs.2.2⟩
  rw [m5] at g1 g2
  rw [m1, m2] at g3
  obtain ⟨w1, w2⟩ := XG_w (d := 3) hw (by decide)
  have o65 : ∀ i, τ.I 65 i = ω.I 65 i := fun i => by rw [hw, I_wI]; exact if_neg (fun z => absurd z.1 (by decide))
  have o80 : τ.I 80 1 = ω.I 80 1 := by rw [hw, I_wI]; exact if_neg (fun z => absurd z.1 (by decide))
  have es : sgn (eX σ) x s.p = sg := by rw [hs.1, ← hsg]
  refine ⟨v, s'.up 3 v (sgn (eX σ) x s.p), RN_pt g1 (by rw [← g4.1]; exact hh), PO_sg g2 (by split <;> omega) (by rw [es]; exact h2) ht, ?_, by rw [o80]; exact g4.1, by rw [o65]; exact g4.2⟩
  rw [o65, es]
  exact g3.top (Or.inl rfl) w1 w2
theorem FTX_pt {sg : Int} (hm : SMX σ ρ (if 0 < sg then σ.I 80 1 + 1 else σ.I 80 1) (σ.I 65 3)) (hsg : sg = sgn (eX σ) x (σ.I 80 1)) (k : KX σ ρ) (g : FTX ρ τ b 0 (.one a)) : FTX σ τ b 0 (.part a x) := by
  obtain ⟨w, g1, g2⟩ := g
  obtain ⟨m1, m2, m3, m4, m5⟩ := hm
  refine ⟨w, FT.tr k g1, fun s hs => ?_⟩
  have hq : (if 0 < sgn (eX σ) x s.p then s.p + 1 else s.p) = if 0 < sg then σ.I 80 1 + 1 else σ.I 80 1 := by rw [hs.1, ← hsg]
  have q := g2 (s.to (if 0 < sgn (eX σ) x s.p then s.p + 1 else s.p)) ⟨by rw [m3]; exact hq, by rw [m4]; exact hs.2.1, hs.2.2⟩
  rw [m5] at q
  exact RF_pt q
theorem OKX_ptB {sg dgt : Int} (hm : SMX σ ρ (if 0 < sg then σ.I 80 1 + 1 else σ.I 80 1) (σ.I 65 3)) (hsg : sg = sgn (eX σ) x (σ.I 80 1)) (h2 : 0 ≤ sg ∧ sg ≤ 2) (g : OKX ρ ω 0 (.one a) t y) {ω1 ω2 : Sto} (hw : ω1 = ω.wI 70 y sg) (hs2 : SMX ω1 ω2 (ω1.I 80 1 + 2) (ω1.I 65 3)) (hw2 : τ = ω2.wI 71 y (ω1.I 71 y * dgt)) (hh : hc (eX σ) (ω.I 80 1) = 94) (hdg : dgt = hc (eX σ) (ω.I 80 1 + 1) - 48) (hd9 : 1 ≤ dgt ∧ dgt ≤ 9) (ht : 9 * t ≤ u) (hu : u ≤ 10000000000000) (hlt : ω.I 80 1 + 2 ≤ σ.I 80 2) : OKX σ τ 0 (.part a x) u y := by
  intro s hs
  obtain ⟨m1, m2, m3, m4, m5⟩ := hm
  have hq : (if 0 < sgn (eX σ) x s.p then s.p + 1 else s.p) = if 0 < sg then σ.I 80 1 + 1 else σ.I 80 1 := by rw [hs.1, ← hsg]
  obtain ⟨v, s', g1, g2, g3, g4⟩ := g (s.to (if 0 < sgn (eX σ) x s.p then s.p + 1 else s.p)) ⟨by rw [m3]; exact hq, by rw [m4]; exact hs.2.1, hs.2.2⟩
  rw [m5] at g1 g2
  rw [m1, m2] at g3
  obtain ⟨w1, w2⟩ := XG_w (d := 3) hw (by decide)
  obtain ⟨w3, w4⟩ := XG_w (d := 4) hw2 (by decide)
  obtain ⟨n1, n2, n3, n4, n5⟩ := hs2
  have o65 : ∀ i, ω1.I 65 i = ω.I 65 i := fun i => by rw [hw, I_wI]; exact if_neg (fun z => absurd z.1 (by decide))
  have o80 : ω1.I 80 1 = ω.I 80 1 := by rw [hw, I_wI]; exact if_neg (fun z => absurd z.1 (by decide))
  have p65 : ∀ i, τ.I 65 i = ω2.I 65 i := fun i => by rw [hw2, I_wI]; exact if_neg (fun z => absurd z.1 (by decide))
  have p80 : τ.I 80 1 = ω2.I 80 1 := by rw [hw2, I_wI]; exact if_neg (fun z => absurd z.1 (by decide))
  have es : sgn (eX σ) x s.p = sg := by rw [hs.1, ← hsg]
  have e71 : ω1.I 71 y = s'.T 4 v := by
    have q : XG ω1 4 y = XG ω 4 y := w1 4 y (by omega)
    rw [XG_at (by decide)] at q
    exact q.trans g3.2.2.1.2.1.2.2.1
  have ed : hc (eX σ) (s'.p + 1) - 48 = dgt := by rw [← g4.1, hdg]
  refine ⟨v, _, RN_ptB g1 (by rw [← g4.1]; exact hh) (by omega), ?_, ?_, ?_, ?_⟩
  · rw [ed, es]
    exact PO_bo g2 (by split <;> omega) h2 hd9 (by rw [← g4.1]; exact hlt) ht hu
  · rw [p65, n2, o65, es, ed, ← up_cm (by decide : (3 : Nat) ≠ 4)]
    have q1 : XP (XG σ) (XG ω1) (σ.I 65 2) (ω.I 65 2) s (s'.to (s'.p + 2)) v y → True := fun _ => trivial
    have q2 : XP (XG σ) (XG ω1) (σ.I 65 2) (ω.I 65 2) s ((s'.to (s'.p + 2)).up 3 v sg) v y := XP.top (s1 := s'.to (s'.p + 2)) g3 (Or.inl rfl) w1 w2
    refine q2.top (Or.inr rfl) (fun c b h => by rw [w3 c b h, n1]) ?_
    rw [w4, e71]
  · rw [p80, n3, o80, g4.1]; rfl
  · rw [p65, n4, o65]; exact g4.2
theorem FTX_ptB {sg : Int} (hm : SMX σ ρ (if 0 < sg then σ.I 80 1 + 1 else σ.I 80 1) (σ.I 65 3)) (hsg : sg = sgn (eX σ) x (σ.I 80 1)) (g : OKX ρ ω 0 (.one a) t y) (hh : hc (eX σ) (ω.I 80 1) = 94) (hd : ¬ (49 ≤ hc (eX σ) (ω.I 80 1 + 1) ∧ hc (eX σ) (ω.I 80 1 + 1) ≤ 57)) (hf : FT σ τ b (-10 - (ω.I 80 1 + 1))) : FTX σ τ b 0 (.part a x) := by
  refine ⟨_, hf, fun s hs => ?_⟩
  obtain ⟨m1, m2, m3, m4, m5⟩ := hm
  have hq : (if 0 < sgn (eX σ) x s.p then s.p + 1 else s.p) = if 0 < sg then σ.I 80 1 + 1 else σ.I 80 1 := by rw [hs.1, ← hsg]
  obtain ⟨v, s', g1, g2, g3, g4⟩ := g (s.to (if 0 < sgn (eX σ) x s.p then s.p + 1 else s.p)) ⟨by rw [m3]; exact hq, by rw [m4]; exact hs.2.1, hs.2.2⟩
  rw [m5] at g1
  rw [g4.1]
  exact RF_ptB g1 (by rw [← g4.1]; exact hh) (by rw [← g4.1]; exact hd)
theorem OKX_y (h : OKX σ τ od c t y) (hN : 0 ≤ σ.I 65 2) : ((0 ≤ y ∧ y < τ.I 65 2) ∧ (1 ≤ τ.I 71 y ∧ τ.I 71 y ≤ t)) ∧ σ.I 80 1 < τ.I 80 1 := by
  obtain ⟨v, s', h1, h2, h3, h4, h5⟩ := h ⟨σ.I 80 1, σ.I 65 3 - od, 0, fun _ _ => 0⟩ ⟨rfl, by show σ.I 65 3 - od + od = _; omega, Int.le_refl _⟩
  have a1 : σ.I 80 1 < s'.p := h2.2.2.2.1.1
  have hb := h3.b
  have e : τ.I 71 y = s'.T 4 v := h3.2.2.1.2.1.2.2.1
  have a2 := h2.2.2.2.2.2.2
  rw [e]
  exact ⟨⟨by omega, a2⟩, by omega⟩
theorem RN_la1 {e : PE} {s s' : PS} {v : Int} (h : RN e (.best a) s v s') (hh : hc e s'.p ≠ 124) : RN e (.any a) s v s' := by
  have q := RN_la (RT_any h) hh
  rw [show jn 0 v v s' = (v, s') from if_pos rfl] at q
  exact q
theorem RN_lb1 {e : PE} {s s' : PS} {v : Int} (h : RN e (.all a) s v s') (hh : hc e s'.p ≠ 47) : RN e (.best a) s v s' := by
  have q := RN_lb (RT_best h) hh
  rw [show jn 1 v v s' = (v, s') from if_pos rfl] at q
  exact q
/-! { } -/
section LEA
theorem XO_l (h1 : bgn (hc (eX σ) (σ.I 80 1))) (h2 : ¬ (σ.I 65 3 - 1 = 60 ∨ 11 < a)) (hh : hc (eX σ) (σ.I 80 1) = 123) {s : PS} (hs : XO σ 1 s) : bgn (hc (eX σ) s.p) ∧ ¬ (s.on = 60 ∨ 11 < a) ∧ hc (eX σ) s.p = 123 := by
  have e : s.on = σ.I 65 3 - 1 := by have := hs.2.1; omega
  rw [hs.1, e]; exact ⟨h1, h2, hh⟩
theorem FTX_l6 (h1 : bgn (hc (eX σ) (σ.I 80 1))) (h2 : ¬ (σ.I 65 3 - 1 = 60 ∨ 11 < a)) (hh : hc (eX σ) (σ.I 80 1) = 123) (h3 : ¬ dg (hc (eX σ) (σ.I 80 1 + 1))) (g : FT σ τ b (-10 - (σ.I 80 1 + 1))) : FTX σ τ b 1 (.one a) := by
  refine ⟨_, g, fun s hs => ?_⟩
  obtain ⟨q1, q2, q3⟩ := XO_l h1 h2 hh hs
  rw [← hs.1]
  exact RF_o6 q1 q2 q3 (by rw [hs.1]; exact h3)
theorem FTX_l7 (h1 : bgn (hc (eX σ) (σ.I 80 1))) (h2 : ¬ (σ.I 65 3 - 1 = 60 ∨ 11 < a)) (hh : hc (eX σ) (σ.I 80 1) = 123) (h3 : dg (hc (eX σ) (σ.I 80 1 + 1))) (h4 : hc (eX σ) (σ.I 80 1 + 2) ≠ 32) (g : FT σ τ b (-10 - (σ.I 80 1 + 2))) : FTX σ τ b 1 (.one a) := by
  refine ⟨_, g, fun s hs => ?_⟩
  obtain ⟨q1, q2, q3⟩ := XO_l h1 h2 hh hs
  rw [← hs.1]
  exact RF_o7 q1 q2 q3 (by rw [hs.1]; exact h3) (by rw [hs.1]; exact h4)
theorem XO_l3 (h1 : bgn (hc (eX σ) (σ.I 80 1))) (h2 : ¬ (σ.I 65 3 - 1 = 60 ∨ 11 < a)) (hh : hc (eX σ) (σ.I 80 1) = 123) {s : PS} (hs : XO σ 1 s) (hp : ρ.I 80 1 = σ.I 80 1 + 3) (ho : ρ.I 65 3 = σ.I 65 3) : XO ρ 0 (s.o1.to (s.p + 3)) :=
  ⟨by rw [hp]; show s.p + 3 = _; rw [hs.1], by rw [ho]; show s.on + 1 + 0 = _; have := hs.2.1; omega, hs.2.2⟩
theorem FTX_l5 (h1 : bgn (hc (eX σ) (σ.I 80 1))) (h2 : ¬ (σ.I 65 3 - 1 = 60 ∨ 11 < a)) (hh : hc (eX σ) (σ.I 80 1) = 123) (h3 : dg (hc (eX σ) (σ.I 80 1 + 1))) (h4 : hc (eX σ) (σ.I 80 1 + 2) = 32) (k : KX σ ρ) (hp : ρ.I 80 1 = σ.I 80 1 + 3) (ho : ρ.I 65 3 = σ.I 65 3) (g : FTX ρ τ b 0 (.part (a + 1) 0)) : FTX σ τ b 1 (.one a) := by
  obtain ⟨x, g1, g2⟩ := g
  refine ⟨x, FT.tr k g1, fun s hs => ?_⟩
  have q := g2 _ (XO_l3 h1 h2 hh hs hp ho)
  obtain ⟨q1, q2, q3⟩ := XO_l h1 h2 hh hs
  rw [eX_k k] at q
  exact RF_o5 q1 q2 q3 (by rw [hs.1]; exact h3) (by rw [hs.1]; exact h4) q
theorem XLI_l5 (h1 : bgn (hc (eX σ) (σ.I 80 1))) (h2 : ¬ (σ.I 65 3 - 1 = 60 ∨ 11 < a)) (hh : hc (eX σ) (σ.I 80 1) = 123) (h3 : dg (hc (eX σ) (σ.I 80 1 + 1))) (h4 : hc (eX σ) (σ.I 80 1 + 2) = 32) (hN : 0 ≤ σ.I 65 2) (hd : NDX σ ρ 3 (-1) fr) (hfr : fr = hc (eX σ) (σ.I 80 1 + 1) - 48) (hp : ρ.I 80 1 = σ.I 80 1 + 3) (k : eX ρ = eX σ) (g : OKX ρ ω 0 (.part (a + 1) 0) t y) (hw : τ = ω.wI 68 (σ.I 65 2) y) :
    XLI σ τ 1 PS.o1 (.one a) (fun f l => .ls (a + 1) f l fr) t y y (σ.I 65 2) 3 fr (τ.I 80 1) (fun _ _ _ => True) := by
  intro s hs
  obtain ⟨d1, ⟨r0, r1, r2, r3, r4, r5, r8⟩, d3, d5⟩ := hd
  obtain ⟨v, s', g1, g2, g3, g4⟩ := g _ (XO_l3 h1 h2 hh hs hp d5)
  obtain ⟨q1, q2, q3⟩ := XO_l h1 h2 hh hs
  rw [k] at g1 g2
  rw [d3] at g3
  obtain ⟨w1, w2⟩ := XG_w (d := 1) hw (by decide)
  have o65 : ∀ i, τ.I 65 i = ω.I 65 i := fun i => by rw [hw, I_wI]; exact if_neg (fun z => absurd z.1 (by decide))
  have o80 : τ.I 80 1 = ω.I 80 1 := by rw [hw, I_wI]; exact if_neg (fun z => absurd z.1 (by decide))
  refine ⟨v, v, s', ?_, PO_fst g2 (by decide), ?_, ⟨by rw [o80]; exact g4.1.symm, by rw [o65]; exact g4.2⟩, trivial⟩
  · rw [hfr, ← hs.1]
    exact RT_o5 q1 q2 q3 (by rw [hs.1]; exact h3) (by rw [hs.1]; exact h4) g1
  · rw [o65]
    exact XL.head g3 rfl hN d1 w1 w2 ⟨r0, r2, r3, r4, r5, r8⟩
end LEA
theorem XLI_lfin (h : XLI σ ρ 1 PS.o1 (.one a) (fun f l => .ls (a + 1) f l fr) t x z n 3 fr (ρ.I 80 1) J) (hN : 0 ≤ σ.I 65 2) (hn : n ≠ -1) (hh : hc (eX σ) (ρ.I 80 1) = 125) (hm : SMX ρ τ (ρ.I 80 1 + 1) (ρ.I 65 3)) (ht : 1 ≤ u) (hf : 0 ≤ fr ∧ fr ≤ 9) (hlt : ρ.I 80 1 < σ.I 80 2) (h60 : σ.I 65 3 ≤ 60) : OKX σ τ 1 (.one a) u n := by
  intro s hs
  obtain ⟨f, l, s1, h1, h2, h3, h4, h5⟩ := h s hs
  obtain ⟨m1, m2, m3, m4, m5⟩ := hm
  refine ⟨s1.nc, s1.ad (s1.p + 1) (rowN 3 f fr), RN_ls h1 (by rw [h4.1]; exact hh), PO_some h2 hf ht (by rw [h4.1]; exact hlt) (by have := hs.2.1; omega), ?_, by rw [m3, ← h4.1]; rfl, by rw [m4]; exact h4.2⟩
  rw [m1, m2]
  exact h3.fin hn hN (by decide) (Or.inl rfl)
end XST
end
section
/-! contracts: printed by tools/mk.py out of s97b_parX.py -/
set_option maxRecDepth 100000
set_option maxHeartbeats 1500000
theorem orw {x t : Int} (h : 0 ≤ x ∧ x ≤ 1) : (t ≠ 0 → (if x = 1 ∨ t = 0 then (1 : Int) else 0) = b32or x 0) ∧ (t = 0 → (if x = 1 ∨ t = 0 then (1 : Int) else 0) = b32or x 1) := by
  obtain ⟨o1, o2⟩ := or01 (x := x) (by omega)
  rw [o1, o2]
  refine ⟨fun q => ?_, fun q => if_pos (Or.inr q)⟩
  by_cases z : x = 1
  · rw [if_pos (Or.inl z)]; omega
  · rw [if_neg (fun y => y.elim z q)]; omega
theorem fh_0 {e : PE} {p : Int} (h : hc e p = 42) : fhF e p = 0 ∧ fhP e p = p := by
  have hn : p < e.n := hc_b (by omega)
  have hB : e.B p % 256 = 42 := by unfold hc at h; rw [if_pos hn] at h; exact h
  have h0 : fhN e p = 0 := by unfold fhN; rw [if_neg (fun z => by have := z.2.1; have := z.2.2; omega)]
  have hf : ¬ fhT e p := fun z => z.1 h0
  unfold fhF fhP
  rw [if_neg (by rw [zb_f hf]; omega), if_neg (by rw [zb_f hf]; omega)]
  exact ⟨rfl, rfl⟩

theorem FTX_full {σ ρ τ : Sto} {b : Nat} {a : Int} (h1 : bgn (hc (eX σ) (σ.I 80 1))) (h2 : σ.I 65 3 = 60 ∨ 11 < a) (k : KX σ ρ) (eb : b = ρ.n) (e : τ = (ρ.al 112 7).wI b 0 (-3)) : FTX σ τ b 0 (.one a) := by
  refine ⟨-3, ⟨ρ, k, eb, e⟩, fun s hs => RF_o2 (by rw [hs.1]; exact h1) ?_⟩
  have : s.on = σ.I 65 3 := by have := hs.2.1; omega
  rw [this]; exact h2
theorem FTX_nb {σ τ : Sto} {b : Nat} {a : Int} (h : ¬ bgn (hc (eX σ) (σ.I 80 1))) (g : FT σ τ b (-10 - σ.I 80 1)) : FTX σ τ b 0 (.one a) := by
  refine ⟨_, g, fun s hs => ?_⟩
  rw [← hs.1]
  exact RF_o1 (by rw [hs.1]; exact h)

abbrev RC_X4_any (E : XE) (k : Nat) : Prop := ∀ {d : Nat} {σ : Sto} {x1 : Int}, k + 18 ≤ d → Lay σ → (SRD σ) → (PBX σ) → (0 ≤ x1 ∧ x1 ≤ 12) → (6 * (12 - x1).toNat + 6 ≤ k) → CC E mX4_any d [aO 80, aI (x1)] σ (RTI (fun y τ => (OKX σ τ 0 (.any x1) (tb x1) y) ∧ (PBX τ) ∧ (((0 ≤ y ∧ y < τ.I 65 2) ∧ (1 ≤ τ.I 71 y ∧ τ.I 71 y ≤ tb x1)) ∧ (σ.I 80 1) < τ.I 80 1) ∧ (KX σ τ)) (fun a τ => (SF σ τ) ∧ (FTX σ τ a 0 (.any x1))))
abbrev RC_X4_best (E : XE) (k : Nat) : Prop := ∀ {d : Nat} {σ : Sto} {x1 : Int}, k + 18 ≤ d → Lay σ → (SRD σ) → (PBX σ) → (0 ≤ x1 ∧ x1 ≤ 12) → (6 * (12 - x1).toNat + 5 ≤ k) → CC E mX4_best d [aO 80, aI (x1)] σ (RTI (fun y τ => (OKX σ τ 0 (.best x1) (tb x1) y) ∧ (PBX τ) ∧ (((0 ≤ y ∧ y < τ.I 65 2) ∧ (1 ≤ τ.I 71 y ∧ τ.I 71 y ≤ tb x1)) ∧ (σ.I 80 1) < τ.I 80 1) ∧ (KX σ τ)) (fun a τ => (SF σ τ) ∧ (FTX σ τ a 0 (.best x1))))
abbrev RC_X4_all (E : XE) (k : Nat) : Prop := ∀ {d : Nat} {σ : Sto} {x1 : Int}, k + 18 ≤ d → Lay σ → (SRD σ) → (PBX σ) → (0 ≤ x1 ∧ x1 ≤ 12) → (6 * (12 - x1).toNat + 4 ≤ k) → CC E mX4_all d [aO 80, aI (x1)] σ (RTI (fun y τ => (OKX σ τ 0 (.all x1) (tb x1) y) ∧ (PBX τ) ∧ (((0 ≤ y ∧ y < τ.I 65 2) ∧ (1 ≤ τ.I 71 y ∧ τ.I 71 y ≤ tb x1)) ∧ (σ.I 80 1) < τ.I 80 1) ∧ (KX σ τ)) (fun a τ => (SF σ τ) ∧ (FTX σ τ a 0 (.all x1))))
abbrev RC_X4_part (E : XE) (k : Nat) : Prop := ∀ {d : Nat} {σ : Sto} {x1 : Int} {x2 : Int}, k + 18 ≤ d → Lay σ → (SRD σ) → (PBX σ) → (0 ≤ x1 ∧ x1 ≤ 12) → (6 * (12 - x1).toNat + 3 ≤ k) → (0 ≤ x2 ∧ x2 ≤ 1) → CC E mX4_part d [aO 80, aI (x1), aI (x2)] σ (RTI (fun y τ => (OKX σ τ 0 (.part x1 x2) (tb x1) y) ∧ (PBX τ) ∧ (((0 ≤ y ∧ y < τ.I 65 2) ∧ (1 ≤ τ.I 71 y ∧ τ.I 71 y ≤ tb x1)) ∧ (σ.I 80 1) < τ.I 80 1) ∧ (KX σ τ)) (fun a τ => (SF σ τ) ∧ (FTX σ τ a 0 (.part x1 x2))))
abbrev RC_X4_one (E : XE) (k : Nat) : Prop := ∀ {d : Nat} {σ : Sto} {x1 : Int}, k + 18 ≤ d → Lay σ → (SRD σ) → (PBX σ) → (0 ≤ x1 ∧ x1 ≤ 12) → (6 * (12 - x1).toNat + 2 ≤ k) → CC E mX4_one d [aO 80, aI (x1)] σ (RTI (fun y τ => (OKX σ τ 0 (.one x1) (tb (x1 + 1)) y) ∧ (PBX τ) ∧ (((0 ≤ y ∧ y < τ.I 65 2) ∧ (1 ≤ τ.I 71 y ∧ τ.I 71 y ≤ tb (x1 + 1))) ∧ (σ.I 80 1) < τ.I 80 1) ∧ (KX σ τ) ∧ (x1 ≤ 11)) (fun a τ => (SF σ τ) ∧ (FTX σ τ a 0 (.one x1))))
abbrev RC_X4_least (E : XE) (k : Nat) : Prop := ∀ {d : Nat} {σ : Sto} {x1 : Int}, k + 18 ≤ d → Lay σ → (SRD σ) → (PBX σ) → (0 ≤ x1 ∧ x1 ≤ 11) → (6 * (12 - x1).toNat + 1 ≤ k) → (bgn (hc (eX σ) (σ.I 80 1)) ∧ hc (eX σ) (σ.I 80 1) = 123) → (¬ (σ.I 65 3 - 1 = 60 ∨ 11 < x1)) → (σ.I 65 2 + 2 ≤ 2 * σ.I 65 3) → CC E mX4_least d [aO 80, aI (x1)] σ (RTI (fun y τ => (OKX σ τ 1 (.one x1) (tb (x1 + 1)) y) ∧ (PBX τ) ∧ (((0 ≤ y ∧ y < τ.I 65 2) ∧ (1 ≤ τ.I 71 y ∧ τ.I 71 y ≤ tb (x1 + 1))) ∧ (σ.I 80 1) < τ.I 80 1) ∧ (KX σ τ)) (fun a τ => (SF σ τ) ∧ (FTX σ τ a 1 (.one x1))))
def RCX (E : XE) (k : Nat) : Prop := (RC_X4_any E k) ∧ (RC_X4_best E k) ∧ (RC_X4_all E k) ∧ (RC_X4_part E k) ∧ (RC_X4_one E k) ∧ (RC_X4_least E k)
theorem rcx_any {E : XE} {k : Nat} (h : RCX E k) : RC_X4_any E k := h.1
theorem rcx_best {E : XE} {k : Nat} (h : RCX E k) : RC_X4_best E k := h.2.1
theorem rcx_all {E : XE} {k : Nat} (h : RCX E k) : RC_X4_all E k := h.2.2.1
theorem rcx_part {E : XE} {k : Nat} (h : RCX E k) : RC_X4_part E k := h.2.2.2.1
theorem rcx_one {E : XE} {k : Nat} (h : RCX E k) : RC_X4_one E k := h.2.2.2.2.1
theorem rcx_least {E : XE} {k : Nat} (h : RCX E k) : RC_X4_least E k := h.2.2.2.2.2
end
section
/-! contracts: printed by tools/mk.py out of s97c1_pXany.py -/
set_option maxRecDepth 100000
set_option maxHeartbeats 1500000
theorem sp_X4_any {E : XE} {d : Nat} {σ : Sto} {k : Nat} {x1 : Int} (hd : k + 18 ≤ d) (hL : Lay σ)  (p0 : SRD σ) (p1 : PBX σ) (p2 : 0 ≤ x1 ∧ x1 ≤ 12) (p3 : 6 * (12 - x1).toNat + 6 ≤ k) (p4 : ∀ j, j < k → RCX E j) : CC E mX4_any d [aO 80, aI (x1)] σ (RTI (fun y τ => (OKX σ τ 0 (.any x1) (tb x1) y) ∧ (PBX τ) ∧ (((0 ≤ y ∧ y < τ.I 65 2) ∧ (1 ≤ τ.I 71 y ∧ τ.I 71 y ≤ tb x1)) ∧ (σ.I 80 1) < τ.I 80 1) ∧ (KX σ τ)) (fun a τ => (SF σ τ) ∧ (FTX σ τ a 0 (.any x1)))) := by sorry
end
section
/-! contracts: printed by tools/mk.py out of s97c2_pXbest.py -/
set_option maxRecDepth 100000
set_option maxHeartbeats 1500000
theorem sp_X4_best {E : XE} {d : Nat} {σ : Sto} {k : Nat} {x1 : Int} (hd : k + 18 ≤ d) (hL : Lay σ)  (p0 : SRD σ) (p1 : PBX σ) (p2 : 0 ≤ x1 ∧ x1 ≤ 12) (p3 : 6 * (12 - x1).toNat + 5 ≤ k) (p4 : ∀ j, j < k → RCX E j) : CC E mX4_best d [aO 80, aI (x1)] σ (RTI (fun y τ => (OKX σ τ 0 (.best x1) (tb x1) y) ∧ (PBX τ) ∧ (((0 ≤ y ∧ y < τ.I 65 2) ∧ (1 ≤ τ.I 71 y ∧ τ.I 71 y ≤ tb x1)) ∧ (σ.I 80 1) < τ.I 80 1) ∧ (KX σ τ)) (fun a τ => (SF σ τ) ∧ (FTX σ τ a 0 (.best x1)))) := by sorry
end
section
/-! contracts: printed by tools/mk.py out of s97c3_pXall.py -/
set_option maxRecDepth 100000
set_option maxHeartbeats 1500000
theorem sp_X4_all {E : XE} {d : Nat} {σ : Sto} {k : Nat} {x1 : Int} (hd : k + 18 ≤ d) (hL : Lay σ)  (p0 : SRD σ) (p1 : PBX σ) (p2 : 0 ≤ x1 ∧ x1 ≤ 12) (p3 : 6 * (12 - x1).toNat + 4 ≤ k) (p4 : ∀ j, j < k → RCX E j) : CC E mX4_all d [aO 80, aI (x1)] σ (RTI (fun y τ => (OKX σ τ 0 (.all x1) (tb x1) y) ∧ (PBX τ) ∧ (((0 ≤ y ∧ y < τ.I 65 2) ∧ (1 ≤ τ.I 71 y ∧ τ.I 71 y ≤ tb x1)) ∧ (σ.I 80 1) < τ.I 80 1) ∧ (KX σ τ)) (fun a τ => (SF σ τ) ∧ (FTX σ τ a 0 (.all x1)))) := by sorry
end
section
/-! contracts: printed by tools/mk.py out of s97c4_pXpart.py -/
set_option maxRecDepth 100000
set_option maxHeartbeats 1500000
theorem sp_X4_part {E : XE} {d : Nat} {σ : Sto} {k : Nat} {x1 : Int} {x2 : Int} (hd : k + 18 ≤ d) (hL : Lay σ)  (p0 : SRD σ) (p1 : PBX σ) (p2 : 0 ≤ x1 ∧ x1 ≤ 12) (p3 : 6 * (12 - x1).toNat + 3 ≤ k) (p4 : ∀ j, j < k → RCX E j) (p5 : 0 ≤ x2 ∧ x2 ≤ 1) : CC E mX4_part d [aO 80, aI (x1), aI (x2)] σ (RTI (fun y τ => (OKX σ τ 0 (.part x1 x2) (tb x1) y) ∧ (PBX τ) ∧ (((0 ≤ y ∧ y < τ.I 65 2) ∧ (1 ≤ τ.I 71 y ∧ τ.I 71 y ≤ tb x1)) ∧ (σ.I 80 1) < τ.I 80 1) ∧ (KX σ τ)) (fun a τ => (SF σ τ) ∧ (FTX σ τ a 0 (.part x1 x2)))) := by sorry
end
section
/-! contracts: printed by tools/mk.py out of s97c5_pXone.py -/
set_option maxRecDepth 100000
set_option maxHeartbeats 1500000
theorem sp_X4_one {E : XE} {d : Nat} {σ : Sto} {k : Nat} {x1 : Int} (hd : k + 18 ≤ d) (hL : Lay σ)  (p0 : SRD σ) (p1 : PBX σ) (p2 : 0 ≤ x1 ∧ x1 ≤ 12) (p3 : 6 * (12 - x1).toNat + 2 ≤ k) (p4 : ∀ j, j < k → RCX E j) : CC E mX4_one d [aO 80, aI (x1)] σ (RTI (fun y τ => (OKX σ τ 0 (.one x1) (tb (x1 + 1)) y) ∧ (PBX τ) ∧ (((0 ≤ y ∧ y < τ.I 65 2) ∧ (1 ≤ τ.I 71 y ∧ τ.I 71 y ≤ tb (x1 + 1))) ∧ (σ.I 80 1) < τ.I 80 1) ∧ (KX σ τ) ∧ (x1 ≤ 11)) (fun a τ => (SF σ τ) ∧ (FTX σ τ a 0 (.one x1)))) := by sorry
end
section
/-! contracts: printed by tools/mk.py out of s97c6_pXleast.py -/
set_option maxRecDepth 100000
set_option maxHeartbeats 1500000
theorem sp_X4_least {E : XE} {d : Nat} {σ : Sto} {k : Nat} {x1 : Int} (hd : k + 18 ≤ d) (hL : Lay σ)  (p0 : SRD σ) (p1 : PBX σ) (p2 : 0 ≤ x1 ∧ x1 ≤ 11) (p3 : 6 * (12 - x1).toNat + 1 ≤ k) (p4 : ∀ j, j < k → RCX E j) (p5 : bgn (hc (eX σ) (σ.I 80 1)) ∧ hc (eX σ) (σ.I 80 1) = 123) (p6 : ¬ (σ.I 65 3 - 1 = 60 ∨ 11 < x1)) (p7 : σ.I 65 2 + 2 ≤ 2 * σ.I 65 3) : CC E mX4_least d [aO 80, aI (x1)] σ (RTI (fun y τ => (OKX σ τ 1 (.one x1) (tb (x1 + 1)) y) ∧ (PBX τ) ∧ (((0 ≤ y ∧ y < τ.I 65 2) ∧ (1 ≤ τ.I 71 y ∧ τ.I 71 y ≤ tb (x1 + 1))) ∧ (σ.I 80 1) < τ.I 80 1) ∧ (KX σ τ)) (fun a τ => (SF σ τ) ∧ (FTX σ τ a 1 (.one x1)))) := by sorry
end
section
/-! contracts: printed by tools/mk.py out of s97d_read.py -/
set_option maxRecDepth 100000
set_option maxHeartbeats 1500000
theorem rcx_all_k {E : XE} : ∀ k, RCX E k := by
  intro k
  induction k using Nat.strongRecOn with
  | ind k ih => exact ⟨fun hd hL p0 p1 p2 p3 => sp_X4_any hd hL p0 p1 p2 p3 ih, fun hd hL p0 p1 p2 p3 => sp_X4_best hd hL p0 p1 p2 p3 ih, fun hd hL p0 p1 p2 p3 => sp_X4_all hd hL p0 p1 p2 p3 ih, fun hd hL p0 p1 p2 p3 p5 => sp_X4_part hd hL p0 p1 p2 p3 ih p5, fun hd hL p0 p1 p2 p3 => sp_X4_one hd hL p0 p1 p2 p3 ih, fun hd hL p0 p1 p2 p3 p5 p6 p7 => sp_X4_least hd hL p0 p1 p2 p3 ih p5 p6 p7⟩
theorem sx_X4_any {E : XE} {d : Nat} {σ : Sto} {k : Nat} {x1 : Int} (hd : k + 18 ≤ d) (hL : Lay σ) (p0 : SRD σ) (p1 : PBX σ) (p2 : 0 ≤ x1 ∧ x1 ≤ 12) (p3 : 6 * (12 - x1).toNat + 6 ≤ k) : CC E mX4_any d [aO 80, aI x1] σ (RTI (fun y τ => (OKX σ τ 0 (.any x1) (tb x1) y) ∧ (PBX τ) ∧ (((0 ≤ y ∧ y < τ.I 65 2) ∧ (1 ≤ τ.I 71 y ∧ τ.I 71 y ≤ tb x1)) ∧ (σ.I 80 1) < τ.I 80 1) ∧ (KX σ τ)) (fun a τ => (SF σ τ) ∧ (FTX σ τ a 0 (.any x1)))) := rcx_any (rcx_all_k k) hd hL p0 p1 p2 p3
/-- the text of the draft -/
def eR (σ : Sto) : PE := ⟨σ.I 66, σ.I 65 1, σ.I 16, σ.I 0 9⟩
/-- what read writes -/
def wsR (c : Nat) (i : Int) : Prop := (67 ≤ c ∧ c ≤ 78) ∨ (c = 80 ∧ (i = 1 ∨ i = 2)) ∨ (c = 65 ∧ (i = 2 ∨ i = 3 ∨ i = 4))
abbrev KR (σ τ : Sto) : Prop := Ch wsR (σ.wR 80 0 (some 65)) τ
theorem KR_x {σ τ : Sto} (h : KX σ τ) : Ch wsR σ τ := Ch.mono h (fun c i z => by unfold wsX at z; unfold wsR; omega)
/-- a question read: its table, X's nodes in it -/
def QRX (σ τ : Sto) : Prop := ∃ v s, qR (eR σ) = .inr (v, s) ∧ PO (eR σ) s00 s v (tb 0) ∧ TNd s.T (XG τ) (RG 0 s.nc 0 (τ.I 65 2) (-1)) v (τ.I 65 4) ∧ (s.T 2 v = -1 ∧ XG τ 2 (τ.I 65 4) = -1) ∧ τ.I 65 3 = s.on ∧ τ.I 65 2 = s.nc
def FTQ (σ τ : Sto) (a : Nat) : Prop := ∃ x ρ, qR (eR σ) = .inl x ∧ KR σ ρ ∧ a = ρ.n ∧ τ = (ρ.al 112 7).wI a 0 x
theorem r_beg {σ σ1 σ2 σ3 σ4 σ5 : Sto} (e1 : σ1 = σ.wR 80 0 (some 65)) (e2 : σ2 = σ1.wI 80 1 0) (e3 : σ3 = σ2.wI 80 2 (σ2.I 65 1)) (e4 : σ4 = σ3.wI 65 2 0) (e5 : σ5 = σ4.wI 65 3 0) (p0 : 0 ≤ σ.I 65 1 ∧ σ.I 65 1 ≤ 400) (p1 : 0 ≤ σ.I 0 9 ∧ σ.I 0 9 ≤ 12) (p2 : σ.n + 1 ≤ NC) (p3 : ssum σ + 7 ≤ NS) :
    KR σ σ5 ∧ SRD σ5 ∧ PBX σ5 ∧ eX σ5 = eR σ ∧ XO σ5 0 s00 ∧ σ5.I 65 2 = 0 ∧ σ5.I 80 2 = σ.I 65 1 := by
  have hk : Ch wsR σ1 σ5 := by
    subst e5; subst e4; subst e3; subst e2
    exact Ch.wI (Ch.wI (Ch.wI (Ch.wI Ch.rf (by unfold wsR; omega)) (by unfold wsR; omega)) (by unfold wsR; omega)) (by unfold wsR; omega)
  have hI : ∀ c i, ¬ wsR c i → σ5.I c i = σ.I c i := fun c i q => (hk.2 c i q).trans (by rw [e1]; rfl)
  have s2 : σ2.I 65 1 = σ.I 65 1 := by rw [e2, I_wI, if_neg (fun z => absurd z.1 (by decide)), e1]; rfl
  have v65_3 : σ5.I 65 3 = 0 := by rw [e5]; exact I_same _ _ _ _
  have v65_2 : σ5.I 65 2 = 0 := by rw [e5, I_wI, if_neg (fun z => absurd z.2 (by decide)), e4]; exact I_same _ _ _ _
  have v80_2 : σ5.I 80 2 = σ.I 65 1 := by rw [e5, I_wI, if_neg (fun z => absurd z.1 (by decide)), e4, I_wI, if_neg (fun z => absurd z.1 (by decide)), e3, s2]; exact I_same _ _ _ _
  have v80_1 : σ5.I 80 1 = 0 := by rw [e5, I_wI, if_neg (fun z => absurd z.1 (by decide)), e4, I_wI, if_neg (fun z => absurd z.1 (by decide)), e3, I_wI, if_neg (fun z => absurd z.2 (by decide)), e2]; exact I_same _ _ _ _
  have hR : σ5.R 80 0 = some 65 := by rw [hk.1.1, e1]; exact (up2_at : up2 σ.R 80 0 (some 65) 80 0 = some 65)
  have hs : σ5.sh = σ.sh := by rw [hk.1.2.1, e1]; rfl
  have hn : σ5.n = σ.n := by rw [hk.1.2.2, e1]; rfl
  refine ⟨(by rw [e1] at hk; exact hk), ⟨hR, by rw [v80_2]; exact p0, by rw [hI 0 9 (by unfold wsR; omega)]; exact p1, by rw [hn]; exact p2, by rw [ssum_k hs hn]; exact p3⟩, ?_, ?_, ⟨v80_1.symm, by rw [v65_3]; rfl, Int.le_refl _⟩, v65_2, v80_2⟩
  · unfold PBX; rw [v80_1, v80_2, v65_2, v65_3]; omega
  · unfold eX eR
    rw [v80_2, show σ5.I 66 = σ.I 66 from funext fun k => hI _ _ (by unfold wsR; omega), show σ5.I 16 = σ.I 16 from funext fun k => hI _ _ (by unfold wsR; omega), hI 0 9 (by unfold wsR; omega)]

theorem sp_X4_read {E : XE} {d : Nat} {σ : Sto} {o1 : Nat} (hd : 97 ≤ d) (hL : Lay σ) (ho1 : At3 σ o1) (p0 : o1 = 65) (p1 : 0 ≤ σ.I 65 1 ∧ σ.I 65 1 ≤ 400) (p2 : 0 ≤ σ.I 0 9 ∧ σ.I 0 9 ≤ 12) (p3 : σ.n + 1 ≤ NC) (p4 : ssum σ + 7 ≤ NS) : CC E mX4_read d [aO 80, aO o1] σ (RTV (fun τ => (QRX σ τ) ∧ (KR σ τ)) (fun a τ => (SF σ τ) ∧ (FTQ σ τ a))) := by sorry
end
section
/-! contracts: printed by tools/mk.py out of s97e_copy.py -/
set_option maxRecDepth 100000
set_option maxHeartbeats 1500000
/-- a question copied: o1 into o0; the columns below m at one node more -/
def CQF (σ : Sto) (o0 o1 m : Nat) (x : Int) : Nat → Int → Int := fun c i =>
  if c = o0 ∧ 1 ≤ i ∧ i ≤ 4 then σ.I o1 i else if c = o0 + 1 ∧ 0 ≤ i ∧ i < σ.I o1 1 then σ.I (o1 + 1) i
  else if (o0 + 2 ≤ c ∧ c ≤ o0 + 13) ∧ 0 ≤ i ∧ (i < x ∨ (i = x ∧ c < o0 + m)) then σ.I (o1 + (c - o0)) i else σ.I c i
theorem cq_step {σ τ τ' : Sto} {o0 o1 m : Nat} {x : Int} (hI : τ.I = CQF σ o0 o1 m x) (e : τ' = τ.wI (o0 + m) x (τ.I (o1 + m) x)) (hm : 2 ≤ m ∧ m ≤ 13) (hd : o0 + 13 < o1 ∨ o1 + 13 < o0) (hx : 0 ≤ x) : τ'.I = CQF σ o0 o1 (m + 1) x := by
  have hv : τ.I (o1 + m) x = σ.I (o1 + m) x := by
    rw [hI]; unfold CQF
    rw [if_neg (by omega), if_neg (by omega), if_neg (by omega)]
  funext c i
  rw [e, I_wI, hv, hI]
  unfold CQF
  by_cases h1 : c = o0 ∧ 1 ≤ i ∧ i ≤ 4
  · rw [if_neg (by omega), if_pos h1, if_pos h1]
  · rw [if_neg h1, if_neg h1]
    by_cases h2 : c = o0 + 1 ∧ 0 ≤ i ∧ i < σ.I o1 1
    · rw [if_neg (by omega), if_pos h2, if_pos h2]
    · rw [if_neg h2, if_neg h2]
      by_cases h3 : c = o0 + m ∧ i = x
      · rw [if_pos h3, if_pos (by omega), h3.1, h3.2, show o1 + (o0 + m - o0) = o1 + m by omega]
      · rw [if_neg h3]
        by_cases h4 : (o0 + 2 ≤ c ∧ c ≤ o0 + 13) ∧ 0 ≤ i ∧ (i < x ∨ (i = x ∧ c < o0 + m))
        · rw [if_pos h4, if_pos (by omega)]
        · rw [if_neg h4, if_neg (by omega)]
theorem cq_end {σ : Sto} {o0 o1 : Nat} {x : Int} : CQF σ o0 o1 14 x = CQF σ o0 o1 2 (x + 1) := by
  funext c i
  unfold CQF
  by_cases h1 : c = o0 ∧ 1 ≤ i ∧ i ≤ 4
  · rw [if_pos h1, if_pos h1]
  · rw [if_neg h1, if_neg h1]
    by_cases h2 : c = o0 + 1 ∧ 0 ≤ i ∧ i < σ.I o1 1
    · rw [if_pos h2, if_pos h2]
    · rw [if_neg h2, if_neg h2]
      by_cases h4 : (o0 + 2 ≤ c ∧ c ≤ o0 + 13) ∧ 0 ≤ i ∧ (i < x ∨ (i = x ∧ c < o0 + 14))
      · rw [if_pos h4, if_pos (by omega)]
      · rw [if_neg h4, if_neg (by omega)]
theorem cq_beg {σ σ2 σ9 σ11 σ13 σ15 : Sto} {o0 o1 : Nat} (e2 : σ2 = σ.wI o0 1 (σ.I o1 1)) (e9 : σ9 = σ2.cp (o1 + 1) 0 (o0 + 1) 0 (σ2.I o0 1)) (e11 : σ11 = σ9.wI o0 2 (σ9.I o1 2)) (e13 : σ13 = σ11.wI o0 3 (σ11.I o1 3)) (e15 : σ15 = σ13.wI o0 4 (σ13.I o1 4)) (hd : o0 + 13 < o1 ∨ o1 + 13 < o0) : σ15.I = CQF σ o0 o1 2 0 := by
  have v2 : σ2.I o0 1 = σ.I o1 1 := by rw [e2]; exact I_same _ _ _ _
  have i2 : ∀ c i, ¬ (c = o0 ∧ i = 1) → σ2.I c i = σ.I c i := fun c i q => by rw [e2, I_wI]; exact if_neg q
  have i9 : ∀ c i, σ9.I c i = if c = o0 + 1 ∧ 0 ≤ i ∧ i < σ.I o1 1 then σ.I (o1 + 1) i else σ2.I c i := fun c i => by
    rw [e9, v2]
    grind [= fI_cp, = fI_wI]
  have w : ∀ k, k ≠ 1 → σ9.I o1 k = σ.I o1 k := fun k hk => by rw [i9, if_neg (by omega), i2 _ _ (by omega)]
  have w11 : ∀ k, k ≠ 1 → σ11.I o1 k = σ.I o1 k := fun k hk => by rw [e11, I_wI, if_neg (by omega)]; exact w k hk
  have w13 : ∀ k, k ≠ 1 → σ13.I o1 k = σ.I o1 k := fun k hk => by rw [e13, I_wI, if_neg (by omega)]; exact w11 k hk
  funext c i
  rw [e15, I_wI, w13 4 (by decide), e13, I_wI, w11 3 (by decide), e11, I_wI, w 2 (by decide), i9]
  unfold CQF
  by_cases h1 : c = o0 ∧ 1 ≤ i ∧ i ≤ 4
  · rw [if_pos h1]
    by_cases h4 : c = o0 ∧ i = 4
    · rw [if_pos h4, h4.2]
    · rw [if_neg h4]
      by_cases h3 : c = o0 ∧ i = 3
      · rw [if_pos h3, h3.2]
      · rw [if_neg h3]
        by_cases h2 : c = o0 ∧ i = 2
        · rw [if_pos h2, h2.2]
        · rw [if_neg h2, if_neg (by omega), h1.1, show i = 1 by omega, v2]
  · rw [if_neg h1, if_neg (by omega), if_neg (by omega), if_neg (by omega)]
    by_cases h2 : c = o0 + 1 ∧ 0 ≤ i ∧ i < σ.I o1 1
    · rw [if_pos h2, if_pos h2]
    · rw [if_neg h2, if_neg h2, if_neg (by omega), i2 _ _ (by omega)]

theorem sp_X3_copy {E : XE} {d : Nat} {σ : Sto} {o0 : Nat} {o1 : Nat} (hd : 2 ≤ d) (hL : Lay σ) (ho0 : At3 σ o0) (ho1 : At3 σ o1) (p0 : o0 + 13 < o1 ∨ o1 + 13 < o0) (p1 : 0 ≤ σ.I o1 1 ∧ σ.I o1 1 ≤ 400) (p2 : 0 ≤ σ.I o1 2 ∧ σ.I o1 2 ≤ 200) : CC E mX3_copy d [aO o0, aO o1] σ (RV (fun τ => RD σ τ (CQF σ o0 o1 2 (σ.I o1 2)))) := by sorry
end
section
/-! contracts: printed by tools/mk.py out of s97f_questX.py -/
set_option maxRecDepth 100000
set_option maxHeartbeats 1500000
/-! a question that X holds at cell q -/
def XQ (σ : Sto) (q : Nat) : TB := fun c x => if c < 12 then σ.I (q + 2 + c) x else 0
theorem XQ_65 {σ : Sto} : XQ σ 65 = XG σ := rfl
/-- the question at cell q is the text e, read -/
def QT (σ : Sto) (q : Nat) (e : PE) : Prop := (σ.I q 1 = e.n ∧ ∀ i, 0 ≤ i → i < e.n → σ.I (q + 1) i = e.B i) ∧ ∃ v s, qR e = .inr (v, s) ∧ PO e s00 s v (tb 0) ∧ TNd s.T (XQ σ q) (RG 0 s.nc 0 (σ.I q 2) (-1)) v (σ.I q 4) ∧ (s.T 2 v = -1 ∧ XQ σ q 2 (σ.I q 4) = -1) ∧ σ.I q 3 = s.on ∧ σ.I q 2 = s.nc
theorem TNd.cg {T G G' : TB} {I : Int → Int → Prop} {k x : Int} (h : TNd T G I k x) (hg : ∀ a b, I a b → ∀ c, G' c b = G c b) : TNd T G' I k x :=
  h.mv (fun _ _ q => q) (fun a b q _ _ => ⟨fun _ => rfl, hg a b q⟩) rfl (hg _ _ h.1 1) (h.2.1.cg (fun _ _ _ => rfl) (fun c _ _ => hg _ _ h.1 c))
theorem QT.cp {σ τ : Sto} {o0 o1 : Nat} {e : PE} (h : QT σ o1 e) (e1 : τ.I = CQF σ o0 o1 2 (σ.I o1 2)) : QT τ o0 e := by
  obtain ⟨⟨h1, h2⟩, v, s, h3, h4, h5, h6, h7, h8⟩ := h
  have f : ∀ i, 1 ≤ i → i ≤ 4 → τ.I o0 i = σ.I o1 i := fun i a b => by rw [e1]; unfold CQF; rw [if_pos ⟨rfl, a, b⟩]
  have hb : ∀ c b, 0 ≤ b → b < σ.I o1 2 → XQ τ o0 c b = XQ σ o1 c b := fun c b b0 b1 => by
    unfold XQ
    by_cases q : c < 12
    · rw [if_pos q, if_pos q, e1]
      unfold CQF
      rw [if_neg (by omega), if_neg (by omega), if_pos (by omega), show o1 + (o0 + 2 + c - o0) = o1 + 2 + c by omega]
    · rw [if_neg q, if_neg q]
  have hr := h5.1.2.1
  refine ⟨⟨by rw [f 1 (by decide) (by decide)]; exact h1, fun i a b => ?_⟩, v, s, h3, h4, ?_, ⟨h6.1, ?_⟩, by rw [f 3 (by decide) (by decide)]; exact h7, by rw [f 2 (by decide) (by decide)]; exact h8⟩
  · rw [e1]; unfold CQF
    rw [if_neg (by omega), if_pos ⟨rfl, a, by rw [h1]; exact b⟩]
    exact h2 i a b
  · rw [f 2 (by decide) (by decide), f 4 (by decide) (by decide)]
    exact h5.cg (fun a b q c => hb c b q.2.1.1 q.2.1.2)
  · rw [f 4 (by decide) (by decide), hb 2 _ hr.1 hr.2]; exact h6.2
theorem QT.kp {σ τ : Sto} {q : Nat} {e : PE} (h : QT σ q e) (hk : ∀ c i, q ≤ c → c ≤ q + 13 → τ.I c i = σ.I c i) : QT τ q e := by
  have hx : XQ τ q = XQ σ q := by
    funext c x; unfold XQ
    by_cases z : c < 12
    · rw [if_pos z, if_pos z, hk _ _ (by omega) (by omega)]
    · rw [if_neg z, if_neg z]
  unfold QT at h ⊢
  rw [hx, hk q 1 (by omega) (by omega), hk q 2 (by omega) (by omega), hk q 3 (by omega) (by omega), hk q 4 (by omega) (by omega), show τ.I (q + 1) = σ.I (q + 1) from funext fun i => hk _ _ (by omega) (by omega)]
  exact h
/-- the text on X's tape -/
def eT (σ : Sto) : PE := ⟨σ.I 1, σ.I 0 1, σ.I 16, σ.I 0 9⟩
/-- what was there before is as it was: references, shapes; one cell may be new -/
def OLDS (σ τ : Sto) : Prop := (∀ c i, c < σ.n → ¬ (c = 80 ∧ i = 0) → τ.R c i = σ.R c i) ∧ (∀ c, c < σ.n → τ.sh c = σ.sh c) ∧ (σ.n ≤ τ.n ∧ τ.n ≤ σ.n + 1) ∧ ssum τ ≤ ssum σ + 7
def ws0 (c : Nat) (i : Int) : Prop := (65 ≤ c ∧ c ≤ 78) ∨ (c = 80 ∧ (i = 1 ∨ i = 2)) ∨ at2 c i 0 1
/-- what question leaves: no question read / one read -/
def QNO (σ τ : Sto) : Prop := OLDS σ τ ∧ τ.I 0 1 = 0 ∧ ∀ c i, c < σ.n → ¬ ws0 c i → τ.I c i = σ.I c i
def QYES (σ τ : Sto) : Prop := OLDS σ τ ∧ τ.I 0 1 = 0 ∧ QT τ 51 (eT σ) ∧ ∀ c i, c < σ.n → ¬ ws0 c i → ¬ (51 ≤ c ∧ c ≤ 64) → τ.I c i = if fgX c i then 0 else if at2 c i 0 48 then 1 else σ.I c i

theorem qR_cg {e e' : PE} (h : SameT e e') (h12 : e.f ≤ 12) (hn : 0 ≤ e.n) : qR e' = qR e := by
  unfold qR
  rw [rn_cg h h12 (z := (.any 0, [], s00)) ⟨Int.le_refl _, hn⟩, h.n]
/-- the draft filled from the tape -/
def Q11 (σ σ11 : Sto) : Prop := (σ11.R = σ.R ∧ σ11.sh = σ.sh ∧ σ11.n = σ.n) ∧ (∀ c i, ¬ (c = 65 ∨ c = 66 ∨ at2 c i 0 1) → σ11.I c i = σ.I c i) ∧ σ11.I 0 1 = 0 ∧ σ11.I 65 1 = σ.I 0 1 ∧ ∀ i, 0 ≤ i → i < σ.I 0 1 → σ11.I 66 i = σ.I 1 i
theorem q11_mk {σ σ2 σ10 σ11 : Sto} {y : Int} (h : Ch (fun c i => at2 c i 0 1) σ σ2) (h0 : σ2.I 0 1 = 0) (hy : y = σ.I 0 1) (e10 : σ10 = σ2.cp 1 0 66 0 y) (e11 : σ11 = σ10.wI 65 1 y) : Q11 σ σ11 := by
  have i10 : ∀ c i, σ10.I c i = if c = 66 ∧ 0 ≤ i ∧ i < y then σ2.I 1 i else σ2.I c i := fun c i => by rw [e10]; grind [= fI_cp]
  refine ⟨⟨by rw [e11, e10]; exact h.1.1, by rw [e11, e10]; exact h.1.2.1, by rw [e11, e10]; exact h.1.2.2⟩, fun c i q => ?_, ?_, ?_, fun i a b => ?_⟩
  · rw [e11, I_wI, if_neg (fun z => q (Or.inl z.1)), i10, if_neg (fun z => q (Or.inr (Or.inl z.1)))]
    exact h.2 c i (fun z => q (Or.inr (Or.inr z)))
  · rw [e11, I_wI, if_neg (fun z => absurd z.1 (by decide)), i10, if_neg (fun z => absurd z.1 (by decide))]; exact h0
  · rw [e11, ← hy]; exact I_same _ _ _ _
  · rw [e11, I_wI, if_neg (fun z => absurd z.1 (by decide)), i10, if_pos ⟨rfl, a, by omega⟩]
    exact h.2 1 i (fun z => absurd z.1 (by decide))
theorem Q11.same {σ σ11 : Sto} (h : Q11 σ σ11) : SameT (eT σ) (eR σ11) :=
  ⟨h.2.2.2.1, fun k _ _ => h.2.1 16 k (by omega), h.2.1 0 9 (by unfold at2; omega), h.2.2.2.2⟩
theorem PO_same {e e' : PE} {s s' : PS} {v t : Int} (hn : e'.n = e.n) (hK : e'.K = e.K) (hf : e'.f = e.f) (h : PO e s s' v t) : PO e' s s' v t := by
  obtain ⟨B, n, K, f⟩ := e
  obtain ⟨B', n', K', f'⟩ := e'
  have hn : n' = n := hn
  have hK : K' = K := hK
  have hf : f' = f := hf
  subst hn; subst hK; subst hf
  exact h
theorem QNO_2 {σ σ2 : Sto} (h : Ch (fun c i => at2 c i 0 1) σ σ2) (h0 : σ2.I 0 1 = 0) : QNO σ σ2 :=
  ⟨⟨fun c i _ _ => by rw [h.1.1], fun c _ => by rw [h.1.2.1], by rw [h.1.2.2]; omega, by rw [ssum_k h.1.2.1 h.1.2.2]; omega⟩, h0, fun c i _ q => h.2 c i (fun z => q (Or.inr (Or.inr z)))⟩
theorem QNO_f {σ σ11 ρ τ : Sto} {a : Nat} {x : Int} (h : Q11 σ σ11) (k : KR σ11 ρ) (ha : a = ρ.n) (ht : τ = (ρ.al 112 7).wI a 0 x) (hn : 81 ≤ σ.n) : QNO σ τ := by
  obtain ⟨⟨r1, r2, r3⟩, hI, h0, -, -⟩ := h
  have en : ρ.n = σ.n := k.1.2.2.trans r3
  have es : ρ.sh = σ.sh := k.1.2.1.trans r2
  have oI : ∀ c i, c < σ.n → τ.I c i = ρ.I c i := fun c i hc => by
    rw [ht, I_wI, if_neg (fun z => by have := z.1; omega)]
    exact if_neg (fun z => by omega)
  refine ⟨⟨fun c i hc q => ?_, fun c hc => ?_, ?_, ?_⟩, ?_, fun c i hc q => ?_⟩
  · rw [ht]
    show (if c = ρ.n then none else ρ.R c i) = _
    rw [if_neg (by omega), k.1.1]
    show up2 σ11.R 80 0 (some 65) c i = _
    unfold up2
    rw [if_neg q, r1]
  · rw [ht]
    show (if c = ρ.n then (112, 7) else ρ.sh c) = _
    rw [if_neg (by omega), es]
  · rw [ht]; show σ.n ≤ ρ.n + 1 ∧ ρ.n + 1 ≤ σ.n + 1; omega
  · have e1 : ssum τ = ssum (ρ.al 112 7) := by rw [ht]; rfl
    rw [e1, ssum_al, ssum_k es en]; omega
  · rw [oI 0 _ (by omega), k.2 0 _ (by unfold wsR; omega)]; exact h0
  · rw [oI c i hc, k.2 c i (fun z => q (by unfold wsR at z; unfold ws0; omega))]
    exact hI c i (fun z => q (by unfold ws0; rcases z with z | z | z; (omega); (omega); (exact Or.inr (Or.inr z))))
theorem QT_d {σ σ11 τ : Sto} (h : Q11 σ σ11) (hq : QRX σ11 τ) (k : KR σ11 τ) (h12 : σ.I 0 9 ≤ 12) (hn : 0 ≤ σ.I 0 1) : QT τ 65 (eT σ) ∧ (τ.I 65 1 = σ.I 0 1 ∧ 0 ≤ τ.I 65 2 ∧ τ.I 65 2 ≤ 200) ∧ qok (eT σ) = 1 ∧ qA (eT σ) = τ.I 65 3 := by
  obtain ⟨v, s, q1, q2, q3, q4, q5, q6⟩ := hq
  have q1' : qR (eT σ) = .inr (v, s) := by rw [← qR_cg h.same h12 hn]; exact q1
  have e1 : τ.I 65 1 = σ.I 0 1 := (k.2 65 1 (by unfold wsR; omega)).trans h.2.2.2.1
  have a1 := q2.2.2.2.2.2.1
  have a2 : s.on ≤ 60 := a1.2.1
  have a3 : s.nc - 0 ≤ 2 * (s.on - 0) - 1 := a1.2.2
  have a4 : (0 : Int) ≤ s.nc := q2.1.1
  refine ⟨⟨⟨e1, fun i a b => (k.2 66 i (by unfold wsR; omega)).trans (h.2.2.2.2 i a b)⟩, v, s, q1', PO_same (e := eR σ11) (e' := eT σ) h.2.2.2.1.symm (funext fun k => (h.2.1 16 k (by omega)).symm) (h.2.1 0 9 (by unfold at2; omega)).symm q2, q3, q4, q5, q6⟩, ⟨e1, by omega, by omega⟩, qok_r q1', by rw [qA_r q1', q5]⟩
theorem QYES_mk {σ σ11 σ18 σ25 σ26 σ28 : Sto} (h : Q11 σ σ11) (k : KR σ11 σ18) (hq : QT σ18 65 (eT σ)) (r25 : σ25.R = σ18.R ∧ σ25.sh = σ18.sh ∧ σ25.n = σ18.n) (e25 : σ25.I = CQF σ18 51 65 2 (σ18.I 65 2)) (e26 : σ26 = σ25.wI 0 48 1) (r28 : σ28.R = σ26.R ∧ σ28.sh = σ26.sh ∧ σ28.n = σ26.n) (e28 : σ28.I = fun c i => if fgX c i then 0 else σ26.I c i) : QYES σ σ28 := by
  obtain ⟨⟨r1, r2, r3⟩, hI, h0, -, -⟩ := h
  have i28 : ∀ c i, σ28.I c i = if fgX c i then 0 else if at2 c i 0 48 then 1 else σ25.I c i := fun c i => by rw [e28, e26]; show (if fgX c i then 0 else (σ25.wI 0 48 1).I c i) = _; rw [I_wI]
  have i25 : ∀ c i, ¬ (51 ≤ c ∧ c ≤ 64) → σ25.I c i = σ18.I c i := fun c i q => by rw [e25]; unfold CQF; rw [if_neg (by omega), if_neg (by omega), if_neg (by omega)]
  have eR : σ28.R = (σ11.wR 80 0 (some 65)).R := by rw [r28.1, e26]; exact r25.1.trans k.1.1
  have es : σ28.sh = σ.sh := by rw [r28.2.1, e26]; exact r25.2.1.trans (k.1.2.1.trans r2)
  have en : σ28.n = σ.n := by rw [r28.2.2, e26]; exact r25.2.2.trans (k.1.2.2.trans r3)
  refine ⟨⟨fun c i hc q => ?_, fun c _ => by rw [es], by omega, by rw [ssum_k es en]; omega⟩, ?_, ?_, fun c i hc q q2 => ?_⟩
  · rw [eR]; show up2 σ11.R 80 0 (some 65) c i = _
    unfold up2; rw [if_neg q, r1]
  · rw [i28, if_neg (show ¬ fgX 0 1 by unfold fgX; omega), if_neg (by decide), i25 _ _ (by omega), k.2 0 _ (by unfold wsR; omega)]; exact h0
  · refine (hq.cp e25).kp (fun c i a b => ?_)
    rw [i28, if_neg (show ¬ fgX c i by unfold fgX; omega), if_neg (fun z => by have := z.1; omega)]
  · rw [i28, i25 c i q2, k.2 c i (fun z => q (by unfold wsR at z; unfold ws0; omega)), show (σ11.wR 80 0 (some 65)).I c i = σ11.I c i from rfl, hI c i (fun z => q (by unfold ws0; rcases z with z | z | z; (omega); (omega); (exact Or.inr (Or.inr z))))]

theorem sp_X0_question {E : XE} {d : Nat} {σ : Sto}  (hd : 98 ≤ d) (hL : Lay σ)  (p0 : 0 ≤ σ.I 0 1 ∧ σ.I 0 1 ≤ 20000) (p1 : 0 ≤ σ.I 0 9 ∧ σ.I 0 9 ≤ 12) (p2 : σ.n + 1 ≤ NC) (p3 : ssum σ + 7 ≤ NS) (p4 : 81 ≤ σ.n) : CC E mX0_question d [aO 0] σ (RVI (fun y τ => (y = if 400 < σ.I 0 1 then -3 else qA (eT σ)) ∧ ((400 < σ.I 0 1 ∨ qok (eT σ) = 0) → QNO σ τ) ∧ ((¬ 400 < σ.I 0 1 ∧ qok (eT σ) = 1) → QYES σ τ))) := by sorry
end
section
/-! contracts: printed by tools/mk.py out of s97g_keepX.py -/
set_option maxRecDepth 100000
set_option maxHeartbeats 1500000
theorem CQF_0 {σ : Sto} {o0 o1 m : Nat} {x i : Int} (h : 0 < o0) : CQF σ o0 o1 m x 0 i = σ.I 0 i := by unfold CQF; rw [if_neg (by omega), if_neg (by omega), if_neg (by omega)]
theorem CQF_f {σ : Sto} {o0 o1 m : Nat} {x : Int} : CQF σ o0 o1 m x o0 3 = σ.I o1 3 := by unfold CQF; rw [if_pos ⟨rfl, by decide, by decide⟩]
theorem CQF_u {σ : Sto} {o1 m u : Nat} {x : Int} : CQF σ (u + 1) o1 m x u 1 = σ.I u 1 := by unfold CQF; rw [if_neg (by omega), if_neg (by omega), if_neg (by omega)]

theorem sp_X0_keep {E : XE} {d : Nat} {σ : Sto}  (hd : 3 ≤ d) (hL : Lay σ)  (p0 : 0 ≤ σ.I 0 51 ∧ σ.I 0 51 ≤ 20) (p1 : (0 ≤ σ.I 51 1 ∧ σ.I 51 1 ≤ 400) ∧ (0 ≤ σ.I 51 2 ∧ σ.I 51 2 ≤ 200)) : CC E mX0_keep d [aO 0] σ (RVI (fun y τ => (y = if σ.I 0 48 = 0 then -2 else if σ.I 0 51 = 20 then -3 else σ.I 0 51) ∧ (RD σ τ (fun c i => if σ.I 0 48 ≠ 0 ∧ σ.I 0 51 ≠ 20 then (if at2 c i 0 51 then σ.I 0 51 + 1 else CQF σ (275 + 14 * (σ.I 0 51).toNat) 51 2 (σ.I 51 2) c i) else σ.I c i)))) := by sorry
theorem sp_X0_use {E : XE} {d : Nat} {σ : Sto} {x1 : Int} (hd : 3 ≤ d) (hL : Lay σ)  (p0 : inR x1) (p1 : 0 ≤ σ.I 0 51 ∧ σ.I 0 51 ≤ 20) (p2 : 0 ≤ x1 ∧ x1 ≤ σ.I 0 51 - 1 → (0 ≤ σ.I (275 + 14 * x1.toNat) 1 ∧ σ.I (275 + 14 * x1.toNat) 1 ≤ 400) ∧ (0 ≤ σ.I (275 + 14 * x1.toNat) 2 ∧ σ.I (275 + 14 * x1.toNat) 2 ≤ 200)) : CC E mX0_use d [aO 0, aI (x1)] σ (RVI (fun y τ => (y = if 0 ≤ x1 ∧ x1 ≤ σ.I 0 51 - 1 then σ.I (275 + 14 * x1.toNat) 3 else -1) ∧ (RD σ τ (fun c i => if 0 ≤ x1 ∧ x1 ≤ σ.I 0 51 - 1 then (if fgX c i then 0 else if at2 c i 0 48 then 1 else CQF σ 51 (275 + 14 * x1.toNat) 2 (σ.I (275 + 14 * x1.toNat) 2) c i) else σ.I c i)))) := by sorry
theorem sp_X0_hide {E : XE} {d : Nat} {σ : Sto} {x1 : Int} (hd : 3 ≤ d) (hL : Lay σ)  (p0 : inR x1) (p1 : (0 ≤ σ.I 51 1 ∧ σ.I 51 1 ≤ 400) ∧ (0 ≤ σ.I 51 2 ∧ σ.I 51 2 ≤ 200)) : CC E mX0_hide d [aO 0, aI (x1)] σ (RVI (fun y τ => (y = if ¬ (1 ≤ x1 ∧ x1 ≤ 3) then -1 else if σ.I 0 48 = 0 then -2 else 1) ∧ (RD σ τ (fun c i => if (1 ≤ x1 ∧ x1 ≤ 3) ∧ σ.I 0 48 ≠ 0 then (if fgX c i then 0 else if at2 c i (215 + 15 * x1.toNat) 1 then 1 else CQF σ ((215 + 15 * x1.toNat) + 1) 51 2 (σ.I 51 2) c i) else σ.I c i)))) := by sorry
end
section
/-! contracts: printed by tools/mk.py out of s98_tokC.py -/
set_option maxRecDepth 100000
set_option maxHeartbeats 1200000
theorem XAD_k {τ ρ : Sto} {ot : Nat} {n st en po x2 : Int} {A : Int → Int} (r : ρ.R = τ.R) (s : ρ.sh = τ.sh) (m : ρ.n = τ.n) (e : ρ.I = fun c i => if at2 c i ot 5 then τ.I ot 5 + 1 else if τ.I ot 5 < 250 then (if at2 c i (ot + 2) (τ.I ot 5) then n else if rg c i (ot + 1) (20 * τ.I ot 5) (20 * τ.I ot 5 + n) then A (x2 + (i - 20 * τ.I ot 5)) else if at2 c i (ot + 3) (τ.I ot 5) then st else if at2 c i (ot + 4) (τ.I ot 5) then en else if at2 c i (ot + 5) (τ.I ot 5) then po else τ.I c i) else τ.I c i) : KXt ot τ ρ := ⟨⟨r, s, m⟩, fun c i q => by rw [e]; unfold wsXt at q; grind⟩
theorem XAD_b {τ ρ : Sto} {ot : Nat} {n st en po x2 : Int} {A : Int → Int} (hb : bd_0_20 τ (ot + 2) 250) (hn : 0 ≤ n ∧ n ≤ 20) (e : ρ.I = fun c i => if at2 c i ot 5 then τ.I ot 5 + 1 else if τ.I ot 5 < 250 then (if at2 c i (ot + 2) (τ.I ot 5) then n else if rg c i (ot + 1) (20 * τ.I ot 5) (20 * τ.I ot 5 + n) then A (x2 + (i - 20 * τ.I ot 5)) else if at2 c i (ot + 3) (τ.I ot 5) then st else if at2 c i (ot + 4) (τ.I ot 5) then en else if at2 c i (ot + 5) (τ.I ot 5) then po else τ.I c i) else τ.I c i) : bd_0_20 ρ (ot + 2) 250 := by
  intro i h0 h1
  have := hb i h0 h1
  rw [e]; grind
theorem wT1_a {σ : Sto} {o : Nat} {w : Int → Int} {n : Int} (h : σ.I o 2 = 0 ∨ stmL (σ.I o 1) w n ≤ σ.I o 2) : wT1 (anS σ o) 0 w n = aT eT0 (min (stmL (σ.I o 1) w n) 20) (fun j => stmW (σ.I o 1) w n (0 + j)) := by
  have e : wT1 (anS σ o) 0 w n = if σ.I o 2 = 0 ∨ stmL (σ.I o 1) w n ≤ σ.I o 2 then aT eT0 (min (stmL (σ.I o 1) w n) 20) (stmW (σ.I o 1) w n) else gr (σ.I o 2) (stmW (σ.I o 1) w n) eT0 (stmL (σ.I o 1) w n - σ.I o 2 + 1) := rfl
  rw [e, if_pos h]
  congr 1
  funext j; rw [Int.zero_add]
theorem wT1_b {σ : Sto} {o : Nat} {w : Int → Int} {n : Int} (h : ¬ (σ.I o 2 = 0 ∨ stmL (σ.I o 1) w n ≤ σ.I o 2)) : wT1 (anS σ o) 0 w n = gr (σ.I o 2) (stmW (σ.I o 1) w n) eT0 (stmL (σ.I o 1) w n - σ.I o 2 + 1) := by
  have e : wT1 (anS σ o) 0 w n = if σ.I o 2 = 0 ∨ stmL (σ.I o 1) w n ≤ σ.I o 2 then aT eT0 (min (stmL (σ.I o 1) w n) 20) (stmW (σ.I o 1) w n) else gr (σ.I o 2) (stmW (σ.I o 1) w n) eT0 (stmL (σ.I o 1) w n - σ.I o 2 + 1) := rfl
  rw [e, if_neg h]
theorem no_e {n : Int} {r : Int → Int} : ¬ exN (fun t => eT0.2.1 t = n ∧ eqA (eT0.2.2 t) r 0 0 n) eT0.1 := fun ⟨j, h0, h1, _⟩ => by have : j < 0 := h1; omega
theorem sy_at {σ : Sto} {o : Nat} {w : Int → Int} {n k : Int} {s : TS} (h0 : 0 ≤ k) (h20 : σ.I (o + 9) k ≤ 20) (hq : tdQ (anS σ o) w n (60 * 0 + 20 + 2 * k)) : sy (anS σ o) 0 w n s (k + 1) = aT (sy (anS σ o) 0 w n s k) (σ.I (o + 9) k) (fun j => σ.I (o + 8) (20 * k + j)) := by
  rw [sy_t (anS σ o) 0 w n s k (k + 1) h0 rfl hq, an_ysz h0]
  exact aT_cg (fun j j0 j1 => an_yby h0 j0 (by omega))
theorem stm_0 {m : Int} {w : Int → Int} {n : Int} (h1 : m ≠ 1) (h2 : m ≠ 2) : stmL m w n = n ∧ stmW m w n = w := by unfold stmL stmW; rw [if_neg h1, if_neg h2, if_neg h1, if_neg h2]; exact ⟨rfl, rfl⟩
theorem stm_1 {m : Int} {w : Int → Int} {n : Int} (h1 : m = 1) : stmL m w n = st1L w n ∧ stmW m w n = st1W w n := by unfold stmL stmW; rw [if_pos h1, if_pos h1]; exact ⟨rfl, rfl⟩
theorem stm_2 {m : Int} {w : Int → Int} {n : Int} (h2 : m = 2) : stmL m w n = st2L w n ∧ stmW m w n = st2W w n := by unfold stmL stmW; rw [if_neg (by omega), if_pos h2, if_neg (by omega), if_pos h2]; exact ⟨rfl, rfl⟩

theorem sp_X10_tokens {E : XE} {d : Nat} {σ : Sto} {o0 : Nat} {x1 : Int} {x2 : Int} {x3 : Int} {x4 : Int} {o5 : Nat} (hd : 9 ≤ d) (hL : Lay σ) (ho0 : At10 σ o0) (ho5 : At1 σ o5) (p0 : 0 ≤ x1 ∧ x1 ≤ 29990) (p1 : o5 = 4 ∨ o5 = 10) (p2 : 16 ≤ o0) (p3 : ANB σ o0) (p4 : 0 ≤ σ.I o5 5 ∧ σ.I o5 5 ≤ 250) (p5 : bd_0_20 σ (o5 + 2) 250) (p6 : inR x2) (p7 : inR x3) (p8 : inR x4) : CC E mX10_tokens d [aO o0, aI (x1), aI (x2), aI (x3), aI (x4), aO o5] σ (RV (fun τ => (XWA σ τ o5 (wT (anS σ o0) 0 (σ.I 2) x1) x2 x3 x4) ∧ (bd_0_20 τ (o5 + 2) 250) ∧ (KXt o5 σ τ))) := by sorry
end
