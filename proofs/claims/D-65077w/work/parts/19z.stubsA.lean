section
/-! contracts: printed by tools/mk.py out of s19s_strings.py -/
set_option maxRecDepth 100000
set_option maxHeartbeats 1500000
theorem sp_J4_coder {E : XE} {d : Nat} {σ : Sto} {o0 : Nat} (hd : 1 ≤ d) (hL : Lay σ) (ho0 : o0 < strB.length)  : CC E mJ4_coder d [aS o0] σ (RI σ (0)) := by sorry
theorem sp_J4_isLatin1 {E : XE} {d : Nat} {σ : Sto} {o0 : Nat} (hd : 1 ≤ d) (hL : Lay σ) (ho0 : o0 < strB.length)  : CC E mJ4_isLatin1 d [aS o0] σ (RZ σ (True)) := by sorry
theorem sp_J4_length {E : XE} {d : Nat} {σ : Sto} {o0 : Nat} (hd : 2 ≤ d) (hL : Lay σ) (ho0 : o0 < strB.length)  : CC E mJ4_length d [aS o0] σ (RI σ (sl o0)) := by sorry
theorem sp_J6_checkIndex {E : XE} {d : Nat} {σ : Sto} {x0 : Int} {x1 : Int} {o2 : Value} (hd : 1 ≤ d) (hL : Lay σ)  (p0 : inR x0) (p1 : inR x1) (p2 : 0 ≤ x0 ∧ x0 < x1) : CC E mJ6_checkIndex d [aI (x0), aI (x1), aX o2] σ (RI σ (x0)) := by sorry
theorem sp_J4_checkIndex {E : XE} {d : Nat} {σ : Sto} {x0 : Int} {x1 : Int} (hd : 2 ≤ d) (hL : Lay σ)  (p0 : inR x0) (p1 : inR x1) (p2 : 0 ≤ x0 ∧ x0 < x1) : CC E mJ4_checkIndex d [aI (x0), aI (x1)] σ (RV (fun τ => (τ = σ))) := by sorry
theorem sp_J5_charAt {E : XE} {d : Nat} {σ : Sto} {o0 : Nat} {x1 : Int} (hd : 3 ≤ d) (hL : Lay σ) (ho0 : o0 < strB.length) (p0 : inR x1) (p1 : 0 ≤ x1 ∧ x1 < sl o0) : CC E mJ5_charAt d [aS (100 + o0), aI (x1)] σ (RI σ (sc o0 x1)) := by sorry
theorem sp_J4_charAt {E : XE} {d : Nat} {σ : Sto} {o0 : Nat} {x1 : Int} (hd : 4 ≤ d) (hL : Lay σ) (ho0 : o0 < strB.length) (p0 : inR x1) (p1 : 0 ≤ x1 ∧ x1 < sl o0) : CC E mJ4_charAt d [aS o0, aI (x1)] σ (RI σ (sc o0 x1)) := by sorry
theorem sp_J5_canEncode {E : XE} {d : Nat} {σ : Sto} {x0 : Int} (hd : 1 ≤ d) (hL : Lay σ)  (p0 : inR x0) : CC E mJ5_canEncode d [aI (x0)] σ (RZ σ (0 ≤ x0 ∧ x0 ≤ 255)) := by sorry
/-- the first from i on below n with A = c; -1 for none -/
def ixN (A : Int → Int) (c : Int) : Nat → Int → Int
  | 0, _ => -1
  | f + 1, i => if A i = c then i else ixN A c f (i + 1)
def ixF (A : Int → Int) (c i n : Int) : Int := ixN A c (n - i).toNat i
theorem ixF_e (A : Int → Int) (c i n : Int) (h : n ≤ i) : ixF A c i n = -1 := by
  unfold ixF
  have : (n - i).toNat = 0 := by omega
  rw [this]; rfl
theorem ixF_t (A : Int → Int) (c i n : Int) (h : i < n) (hq : A i = c) : ixF A c i n = i := by
  unfold ixF
  have : (n - i).toNat = (n - (i + 1)).toNat + 1 := by omega
  rw [this]; exact if_pos hq
theorem ixF_f (A : Int → Int) (c i n : Int) (h : i < n) (hq : A i ≠ c) : ixF A c i n = ixF A c (i + 1) n := by
  unfold ixF
  have : (n - i).toNat = (n - (i + 1)).toNat + 1 := by omega
  rw [this]; exact if_neg hq
theorem ixF_in (A : Int → Int) (c i n : Int) : ixF A c i n = -1 ∨ (i ≤ ixF A c i n ∧ ixF A c i n < n) := by
  unfold ixF
  have key : ∀ (f : Nat) (i : Int), i + f ≤ n ∨ f = 0 → ixN A c f i = -1 ∨ (i ≤ ixN A c f i ∧ ixN A c f i < n) := by
    intro f
    induction f with
    | zero => intro i _; exact Or.inl rfl
    | succ f ih =>
      intro i h
      show (if A i = c then i else ixN A c f (i + 1)) = -1 ∨ (i ≤ (if A i = c then i else ixN A c f (i + 1)) ∧ (if A i = c then i else ixN A c f (i + 1)) < n)
      by_cases q : A i = c
      · rw [if_pos q]; exact Or.inr ⟨Int.le_refl _, by omega⟩
      · rw [if_neg q]
        rcases ih (i + 1) (by omega) with z | z
        · exact Or.inl z
        · exact Or.inr ⟨by omega, z.2⟩
  exact key _ i (by omega)

theorem sp_J5_indexOfChar {E : XE} {d : Nat} {σ : Sto} {o0 : Nat} {x1 : Int} {x2 : Int} {x3 : Int} (hd : 1 ≤ d) (hL : Lay σ) (ho0 : o0 < strB.length) (p0 : 0 ≤ x1 ∧ x1 ≤ 127) (p1 : 0 ≤ x2 ∧ x2 ≤ x3) (p2 : x3 ≤ sl o0) : CC E mJ5_indexOfChar d [aS (100 + o0), aI (x1), aI (x2), aI (x3)] σ (RI σ (ixF (sc o0) x1 x2 x3)) := by sorry
theorem sp_J5_indexOf {E : XE} {d : Nat} {σ : Sto} {o0 : Nat} {x1 : Int} {x2 : Int} {x3 : Int} (hd : 2 ≤ d) (hL : Lay σ) (ho0 : o0 < strB.length) (p0 : 0 ≤ x1 ∧ x1 ≤ 127) (p1 : 0 ≤ x2 ∧ x2 ≤ sl o0) (p2 : x3 = sl o0) : CC E mJ5_indexOf d [aS (100 + o0), aI (x1), aI (x2), aI (x3)] σ (RI σ (ixF (sc o0) x1 x2 (sl o0))) := by sorry
theorem sp_J4_indexOf {E : XE} {d : Nat} {σ : Sto} {o0 : Nat} {x1 : Int} {x2 : Int} (hd : 3 ≤ d) (hL : Lay σ) (ho0 : o0 < strB.length) (p0 : 0 ≤ x1 ∧ x1 ≤ 127) (p1 : 0 ≤ x2 ∧ x2 ≤ sl o0) : CC E mJ4_indexOf d [aS o0, aI (x1), aI (x2)] σ (RI σ (ixF (sc o0) x1 x2 (sl o0))) := by sorry
end
section
/-! bounds: printed by tools/mk.py out of bds.txt -/
def bd_0_1000000 (σ : Sto) (a : Nat) (n : Int) : Prop := ∀ i, 0 ≤ i → i < n → 0 ≤ σ.I a i ∧ σ.I a i ≤ 1000000
theorem bd_0_1000000_at {σ : Sto} {a : Nat} {n i : Int} (h : bd_0_1000000 σ a n) (h0 : 0 ≤ i) (h1 : i < n) : σ.I a i = 0 ∨ (0 < σ.I a i ∧ σ.I a i ≤ 1000000) := by have := h i h0 h1; omega
theorem bd_0_1000000_eq {σ τ : Sto} {a : Nat} {n : Int} (h : bd_0_1000000 σ a n) (e : τ.I a = σ.I a) : bd_0_1000000 τ a n := by unfold bd_0_1000000; rw [e]; exact h
def bd_0_20 (σ : Sto) (a : Nat) (n : Int) : Prop := ∀ i, 0 ≤ i → i < n → 0 ≤ σ.I a i ∧ σ.I a i ≤ 20
theorem bd_0_20_at {σ : Sto} {a : Nat} {n i : Int} (h : bd_0_20 σ a n) (h0 : 0 ≤ i) (h1 : i < n) : σ.I a i = 0 ∨ (0 < σ.I a i ∧ σ.I a i ≤ 20) := by have := h i h0 h1; omega
theorem bd_0_20_eq {σ τ : Sto} {a : Nat} {n : Int} (h : bd_0_20 σ a n) (e : τ.I a = σ.I a) : bd_0_20 τ a n := by unfold bd_0_20; rw [e]; exact h
def bd_0_1000 (σ : Sto) (a : Nat) (n : Int) : Prop := ∀ i, 0 ≤ i → i < n → 0 ≤ σ.I a i ∧ σ.I a i ≤ 1000
theorem bd_0_1000_at {σ : Sto} {a : Nat} {n i : Int} (h : bd_0_1000 σ a n) (h0 : 0 ≤ i) (h1 : i < n) : σ.I a i = 0 ∨ (0 < σ.I a i ∧ σ.I a i ≤ 1000) := by have := h i h0 h1; omega
theorem bd_0_1000_eq {σ τ : Sto} {a : Nat} {n : Int} (h : bd_0_1000 σ a n) (e : τ.I a = σ.I a) : bd_0_1000 τ a n := by unfold bd_0_1000; rw [e]; exact h
def bd_0_36499 (σ : Sto) (a : Nat) (n : Int) : Prop := ∀ i, 0 ≤ i → i < n → 0 ≤ σ.I a i ∧ σ.I a i ≤ 36499
theorem bd_0_36499_at {σ : Sto} {a : Nat} {n i : Int} (h : bd_0_36499 σ a n) (h0 : 0 ≤ i) (h1 : i < n) : σ.I a i = 0 ∨ (0 < σ.I a i ∧ σ.I a i ≤ 36499) := by have := h i h0 h1; omega
theorem bd_0_36499_eq {σ τ : Sto} {a : Nat} {n : Int} (h : bd_0_36499 σ a n) (e : τ.I a = σ.I a) : bd_0_36499 τ a n := by unfold bd_0_36499; rw [e]; exact h
def bd_0_23999 (σ : Sto) (a : Nat) (n : Int) : Prop := ∀ i, 0 ≤ i → i < n → 0 ≤ σ.I a i ∧ σ.I a i ≤ 23999
theorem bd_0_23999_at {σ : Sto} {a : Nat} {n i : Int} (h : bd_0_23999 σ a n) (h0 : 0 ≤ i) (h1 : i < n) : σ.I a i = 0 ∨ (0 < σ.I a i ∧ σ.I a i ≤ 23999) := by have := h i h0 h1; omega
theorem bd_0_23999_eq {σ τ : Sto} {a : Nat} {n : Int} (h : bd_0_23999 σ a n) (e : τ.I a = σ.I a) : bd_0_23999 τ a n := by unfold bd_0_23999; rw [e]; exact h
def bd_0_59 (σ : Sto) (a : Nat) (n : Int) : Prop := ∀ i, 0 ≤ i → i < n → 0 ≤ σ.I a i ∧ σ.I a i ≤ 59
theorem bd_0_59_at {σ : Sto} {a : Nat} {n i : Int} (h : bd_0_59 σ a n) (h0 : 0 ≤ i) (h1 : i < n) : σ.I a i = 0 ∨ (0 < σ.I a i ∧ σ.I a i ≤ 59) := by have := h i h0 h1; omega
theorem bd_0_59_eq {σ τ : Sto} {a : Nat} {n : Int} (h : bd_0_59 σ a n) (e : τ.I a = σ.I a) : bd_0_59 τ a n := by unfold bd_0_59; rw [e]; exact h
def bd_0_250 (σ : Sto) (a : Nat) (n : Int) : Prop := ∀ i, 0 ≤ i → i < n → 0 ≤ σ.I a i ∧ σ.I a i ≤ 250
theorem bd_0_250_at {σ : Sto} {a : Nat} {n i : Int} (h : bd_0_250 σ a n) (h0 : 0 ≤ i) (h1 : i < n) : σ.I a i = 0 ∨ (0 < σ.I a i ∧ σ.I a i ≤ 250) := by have := h i h0 h1; omega
theorem bd_0_250_eq {σ τ : Sto} {a : Nat} {n : Int} (h : bd_0_250 σ a n) (e : τ.I a = σ.I a) : bd_0_250 τ a n := by unfold bd_0_250; rw [e]; exact h
def bd_0_600 (σ : Sto) (a : Nat) (n : Int) : Prop := ∀ i, 0 ≤ i → i < n → 0 ≤ σ.I a i ∧ σ.I a i ≤ 600
theorem bd_0_600_at {σ : Sto} {a : Nat} {n i : Int} (h : bd_0_600 σ a n) (h0 : 0 ≤ i) (h1 : i < n) : σ.I a i = 0 ∨ (0 < σ.I a i ∧ σ.I a i ≤ 600) := by have := h i h0 h1; omega
theorem bd_0_600_eq {σ τ : Sto} {a : Nat} {n : Int} (h : bd_0_600 σ a n) (e : τ.I a = σ.I a) : bd_0_600 τ a n := by unfold bd_0_600; rw [e]; exact h
def bd_0_12 (σ : Sto) (a : Nat) (n : Int) : Prop := ∀ i, 0 ≤ i → i < n → 0 ≤ σ.I a i ∧ σ.I a i ≤ 12
theorem bd_0_12_at {σ : Sto} {a : Nat} {n i : Int} (h : bd_0_12 σ a n) (h0 : 0 ≤ i) (h1 : i < n) : σ.I a i = 0 ∨ (0 < σ.I a i ∧ σ.I a i ≤ 12) := by have := h i h0 h1; omega
theorem bd_0_12_eq {σ τ : Sto} {a : Nat} {n : Int} (h : bd_0_12 σ a n) (e : τ.I a = σ.I a) : bd_0_12 τ a n := by unfold bd_0_12; rw [e]; exact h
def bd_0_400 (σ : Sto) (a : Nat) (n : Int) : Prop := ∀ i, 0 ≤ i → i < n → 0 ≤ σ.I a i ∧ σ.I a i ≤ 400
theorem bd_0_400_at {σ : Sto} {a : Nat} {n i : Int} (h : bd_0_400 σ a n) (h0 : 0 ≤ i) (h1 : i < n) : σ.I a i = 0 ∨ (0 < σ.I a i ∧ σ.I a i ≤ 400) := by have := h i h0 h1; omega
theorem bd_0_400_eq {σ τ : Sto} {a : Nat} {n : Int} (h : bd_0_400 σ a n) (e : τ.I a = σ.I a) : bd_0_400 τ a n := by unfold bd_0_400; rw [e]; exact h
def bd_m1_15 (σ : Sto) (a : Nat) (n : Int) : Prop := ∀ i, 0 ≤ i → i < n → (-1) ≤ σ.I a i ∧ σ.I a i ≤ 15
theorem bd_m1_15_at {σ : Sto} {a : Nat} {n i : Int} (h : bd_m1_15 σ a n) (h0 : 0 ≤ i) (h1 : i < n) : σ.I a i = (-1) ∨ ((-1) < σ.I a i ∧ σ.I a i ≤ 15) := by have := h i h0 h1; omega
theorem bd_m1_15_eq {σ τ : Sto} {a : Nat} {n : Int} (h : bd_m1_15 σ a n) (e : τ.I a = σ.I a) : bd_m1_15 τ a n := by unfold bd_m1_15; rw [e]; exact h
def bd_0_500 (σ : Sto) (a : Nat) (n : Int) : Prop := ∀ i, 0 ≤ i → i < n → 0 ≤ σ.I a i ∧ σ.I a i ≤ 500
theorem bd_0_500_at {σ : Sto} {a : Nat} {n i : Int} (h : bd_0_500 σ a n) (h0 : 0 ≤ i) (h1 : i < n) : σ.I a i = 0 ∨ (0 < σ.I a i ∧ σ.I a i ≤ 500) := by have := h i h0 h1; omega
theorem bd_0_500_eq {σ τ : Sto} {a : Nat} {n : Int} (h : bd_0_500 σ a n) (e : τ.I a = σ.I a) : bd_0_500 τ a n := by unfold bd_0_500; rw [e]; exact h
def bd_0_499 (σ : Sto) (a : Nat) (n : Int) : Prop := ∀ i, 0 ≤ i → i < n → 0 ≤ σ.I a i ∧ σ.I a i ≤ 499
theorem bd_0_499_at {σ : Sto} {a : Nat} {n i : Int} (h : bd_0_499 σ a n) (h0 : 0 ≤ i) (h1 : i < n) : σ.I a i = 0 ∨ (0 < σ.I a i ∧ σ.I a i ≤ 499) := by have := h i h0 h1; omega
theorem bd_0_499_eq {σ τ : Sto} {a : Nat} {n : Int} (h : bd_0_499 σ a n) (e : τ.I a = σ.I a) : bd_0_499 τ a n := by unfold bd_0_499; rw [e]; exact h
def bd_0_15 (σ : Sto) (a : Nat) (n : Int) : Prop := ∀ i, 0 ≤ i → i < n → 0 ≤ σ.I a i ∧ σ.I a i ≤ 15
theorem bd_0_15_at {σ : Sto} {a : Nat} {n i : Int} (h : bd_0_15 σ a n) (h0 : 0 ≤ i) (h1 : i < n) : σ.I a i = 0 ∨ (0 < σ.I a i ∧ σ.I a i ≤ 15) := by have := h i h0 h1; omega
theorem bd_0_15_eq {σ τ : Sto} {a : Nat} {n : Int} (h : bd_0_15 σ a n) (e : τ.I a = σ.I a) : bd_0_15 τ a n := by unfold bd_0_15; rw [e]; exact h
end
section
/-! contracts: printed by tools/mk.py out of s20_rows.py -/
set_option maxRecDepth 100000
set_option maxHeartbeats 1500000
theorem sp_X11_is {E : XE} {d : Nat} {σ : Sto} {o0 : Nat} {x1 : Int} {o2 : Nat} {n2 : Nat} {x3 : Int} {x4 : Int} (hd : 1 ≤ d) (hL : Lay σ) (ho0 : At11 σ o0) (ho2 : σ.sh o2 = (1, n2)) (p0 : 0 ≤ x1 ∧ x1 < 20) (p1 : 0 ≤ x3 ∧ 0 ≤ x4 ∧ x3 + x4 ≤ n2) (p2 : inR x4) (p3 : 0 ≤ σ.I (o0 + 2) x1 ∧ σ.I (o0 + 2) x1 ≤ 20) : CC E mX11_is d [aO o0, aI (x1), aO o2, aI (x3), aI (x4)] σ (RZ σ (σ.I (o0 + 2) x1 = x4 ∧ eqR σ (o0 + 1) (20 * x1) o2 x3 x4)) := by sorry
theorem sp_X11_has {E : XE} {d : Nat} {σ : Sto} {o0 : Nat} {o1 : Nat} {n1 : Nat} {x2 : Int} {x3 : Int} (hd : 2 ≤ d) (hL : Lay σ) (ho0 : At11 σ o0) (ho1 : σ.sh o1 = (1, n1)) (p0 : 0 ≤ x2 ∧ 0 ≤ x3 ∧ x2 + x3 ≤ n1) (p1 : inR x3) (p2 : 0 ≤ σ.I o0 2 ∧ σ.I o0 2 ≤ 20) (p3 : ∀ k, 0 ≤ k → k < σ.I o0 2 → 0 ≤ σ.I (o0 + 2) k ∧ σ.I (o0 + 2) k ≤ 20) : CC E mX11_has d [aO o0, aO o1, aI (x2), aI (x3)] σ (RZ σ (∃ k, 0 ≤ k ∧ k < σ.I o0 2 ∧ σ.I (o0 + 2) k = x3 ∧ eqR σ (o0 + 1) (20 * k) o1 x2 x3)) := by sorry
theorem sp_X11_add {E : XE} {d : Nat} {σ : Sto} {o0 : Nat} {o1 : Nat} {n1 : Nat} {x2 : Int} {x3 : Int} (hd : 1 ≤ d) (hL : Lay σ) (ho0 : At11 σ o0) (ho1 : σ.sh o1 = (1, n1)) (p0 : 0 ≤ x2 ∧ 0 ≤ x3 ∧ x3 ≤ 20 ∧ x2 + x3 ≤ n1) (p1 : 0 ≤ σ.I o0 2 ∧ σ.I o0 2 < 20) : CC E mX11_add d [aO o0, aO o1, aI (x2), aI (x3)] σ (RV (fun τ => RD σ τ (fun c i => if rg c i (o0 + 1) (20 * σ.I o0 2) (20 * σ.I o0 2 + x3) then σ.I o1 (x2 + (i - 20 * σ.I o0 2)) else if at2 c i (o0 + 2) (σ.I o0 2) then x3 else if at2 c i o0 2 then σ.I o0 2 + 1 else σ.I c i))) := by sorry
end
section
/-! contracts: printed by tools/mk.py out of s21_tape.py -/
set_option maxRecDepth 100000
set_option maxHeartbeats 1500000
def lets (σ : Sto) (a : Nat) (i j : Int) : Prop := ∀ k, i ≤ k → k < j → isLet (σ.I a k % 256)
theorem sp_X0_isIn {E : XE} {d : Nat} {σ : Sto} {x0 : Int} {x1 : Int} {x2 : Int} (hd : 1 ≤ d) (hL : Lay σ)  (p0 : inR x0) (p1 : inR x1) (p2 : inR x2) : CC E mX0_isIn d [aI (x0), aI (x1), aI (x2)] σ (RZ σ (x1 ≤ x0 ∧ x0 ≤ x2)) := by sorry
theorem sp_X0_isLetter {E : XE} {d : Nat} {σ : Sto} {x0 : Int} (hd : 1 ≤ d) (hL : Lay σ)  (p0 : inR x0) : CC E mX0_isLetter d [aI (x0)] σ (RZ σ (isLet x0)) := by sorry
theorem sp_X9_isLetter {E : XE} {d : Nat} {σ : Sto} {x0 : Int} (hd : 1 ≤ d) (hL : Lay σ)  (p0 : inR x0) : CC E mX9_isLetter d [aI (x0)] σ (RZ σ (isLet (x0 % 256))) := by sorry
theorem sp_X0_byteAt {E : XE} {d : Nat} {σ : Sto} {x1 : Int} (hd : 1 ≤ d) (hL : Lay σ)  (p0 : 0 ≤ x1 ∧ x1 < 30000) : CC E mX0_byteAt d [aO 0, aI (x1)] σ (RI σ (σ.I 1 x1 % 256)) := by sorry
theorem sp_X0_take {E : XE} {d : Nat} {σ : Sto}  (hd : 1 ≤ d) (hL : Lay σ)   : CC E mX0_take d [aO 0] σ (RVI (fun y τ => (y = σ.I 0 1) ∧ (Ch (fun c i => at2 c i 0 1) σ τ) ∧ (τ.I 0 1 = 0))) := by sorry
theorem sp_X9_taken {E : XE} {d : Nat} {σ : Sto}  (hd : 1 ≤ d) (hL : Lay σ)   : CC E mX9_taken d [aO 555] σ (RVI (fun y τ => (y = σ.I 555 2) ∧ (Ch (fun c i => at2 c i 555 2) σ τ) ∧ (τ.I 555 2 = 0))) := by sorry
theorem sp_X0_cut {E : XE} {d : Nat} {σ : Sto} {x1 : Int} (hd : 1 ≤ d) (hL : Lay σ)  (p0 : inR x1) (p1 : 0 ≤ σ.I 0 1) : CC E mX0_cut d [aO 0, aI (x1)] σ (RVI (fun y τ => (0 ≤ x1 ∧ x1 ≤ σ.I 0 1 → y = σ.I 0 1 - x1 ∧ τ = σ.wI 0 1 (σ.I 0 1 - x1)) ∧ (¬ (0 ≤ x1 ∧ x1 ≤ σ.I 0 1) → y = -1 ∧ τ = σ))) := by sorry
theorem sp_X9_cut {E : XE} {d : Nat} {σ : Sto} {x1 : Int} (hd : 1 ≤ d) (hL : Lay σ)  (p0 : inR x1) (p1 : 0 ≤ σ.I 555 2) : CC E mX9_cut d [aO 555, aI (x1)] σ (RVI (fun y τ => (0 ≤ x1 ∧ x1 ≤ σ.I 555 2 → y = σ.I 555 2 - x1 ∧ τ = σ.wI 555 2 (σ.I 555 2 - x1)) ∧ (¬ (0 ≤ x1 ∧ x1 ≤ σ.I 555 2) → y = -1 ∧ τ = σ))) := by sorry
def f4 (x j : Int) : Int := if j = 0 then sx8 (b32shr x 24) else if j = 1 then sx8 (b32shr x 16) else if j = 2 then sx8 (b32shr x 8) else sx8 (b32shr x 0)
def fv (x1 x2 x3 x4 x5 j : Int) : Int := if j < 4 then f4 x1 j else if j < 8 then f4 x2 (j - 4) else if j < 12 then f4 x3 (j - 8) else if j < 16 then f4 x4 (j - 12) else f4 x5 (j - 16)
theorem sp_X0_put {E : XE} {d : Nat} {σ : Sto} {x1 : Int} (hd : 1 ≤ d) (hL : Lay σ)  (p0 : 0 ≤ σ.I 0 1 ∧ σ.I 0 1 + 4 ≤ 30000) : CC E mX0_put d [aO 0, aI (x1)] σ (RV (fun τ => RD σ τ (fun c i => if c = 1 ∧ σ.I 0 1 ≤ i ∧ i < σ.I 0 1 + 4 then f4 x1 (i - σ.I 0 1) else if c = 0 ∧ i = 1 then σ.I 0 1 + 4 else σ.I c i))) := by sorry
theorem sp_X0_feed {E : XE} {d : Nat} {σ : Sto} {x1 : Int} {x2 : Int} {x3 : Int} {x4 : Int} {x5 : Int} (hd : 2 ≤ d) (hL : Lay σ)  (p0 : 0 ≤ σ.I 0 1 ∧ σ.I 0 1 ≤ 30000) : CC E mX0_feed d [aO 0, aI (x1), aI (x2), aI (x3), aI (x4), aI (x5)] σ (RVI (fun y τ => (y = if σ.I 0 1 + 20 ≤ 30000 then σ.I 0 1 + 20 else -3) ∧ (RD σ τ (fun c i => if σ.I 0 1 + 20 ≤ 30000 ∧ c = 1 ∧ σ.I 0 1 ≤ i ∧ i < σ.I 0 1 + 20 then fv x1 x2 x3 x4 x5 (i - σ.I 0 1) else if σ.I 0 1 + 20 ≤ 30000 ∧ at2 c i 0 1 then σ.I 0 1 + 20 else σ.I c i)))) := by sorry
theorem sp_X9_feed {E : XE} {d : Nat} {σ : Sto} {x1 : Int} {x2 : Int} {x3 : Int} {x4 : Int} {x5 : Int} (hd : 1 ≤ d) (hL : Lay σ)  (p0 : 0 ≤ σ.I 555 2 ∧ σ.I 555 2 ≤ 30000) : CC E mX9_feed d [aO 555, aI (x1), aI (x2), aI (x3), aI (x4), aI (x5)] σ (RVI (fun y τ => (y = if σ.I 555 2 + 20 ≤ 30000 then σ.I 555 2 + 20 else -3) ∧ (RD σ τ (fun c i => if σ.I 555 2 + 20 ≤ 30000 ∧ c = 557 ∧ σ.I 555 2 ≤ i ∧ i < σ.I 555 2 + 20 then fv x1 x2 x3 x4 x5 (i - σ.I 555 2) else if σ.I 555 2 + 20 ≤ 30000 ∧ at2 c i 555 2 then σ.I 555 2 + 20 else σ.I c i)))) := by sorry
end
section
/-! contracts: printed by tools/mk.py out of s22_ops.py -/
set_option maxRecDepth 100000
set_option maxHeartbeats 1500000
abbrev fgX (c : Nat) (i : Int) : Prop := at2 c i 0 70 ∨ at2 c i 0 71 ∨ at2 c i 0 59 ∨ at2 c i 0 75 ∨ at2 c i 0 79
abbrev fgM (c : Nat) (i : Int) : Prop := at2 c i 555 114 ∨ at2 c i 555 115 ∨ at2 c i 555 133 ∨ at2 c i 555 134 ∨ at2 c i 555 135
theorem sp_X0_isAnalyser {E : XE} {d : Nat} {σ : Sto} {x1 : Int} (hd : 2 ≤ d) (hL : Lay σ)  (p0 : inR x1) (p1 : 0 ≤ σ.I 0 4 ∧ σ.I 0 4 ≤ 6) : CC E mX0_isAnalyser d [aO 0, aI (x1)] σ (RZ σ (0 ≤ x1 ∧ x1 < σ.I 0 4)) := by sorry
theorem sp_X9_isAnalyser {E : XE} {d : Nat} {σ : Sto} {x1 : Int} (hd : 1 ≤ d) (hL : Lay σ)  (p0 : inR x1) : CC E mX9_isAnalyser d [aO 555, aI (x1)] σ (RZ σ (0 ≤ x1 ∧ x1 < σ.I 555 3)) := by sorry
theorem sp_X0_isField {E : XE} {d : Nat} {σ : Sto} {x1 : Int} (hd : 2 ≤ d) (hL : Lay σ)  (p0 : inR x1) (p1 : 0 ≤ σ.I 0 9 ∧ σ.I 0 9 ≤ 12) : CC E mX0_isField d [aO 0, aI (x1)] σ (RZ σ (0 ≤ x1 ∧ x1 < σ.I 0 9)) := by sorry
theorem sp_X9_isField {E : XE} {d : Nat} {σ : Sto} {x1 : Int} (hd : 1 ≤ d) (hL : Lay σ)  (p0 : inR x1) : CC E mX9_isField d [aO 555, aI (x1)] σ (RZ σ (0 ≤ x1 ∧ x1 < σ.I 555 27)) := by sorry
theorem sp_X0_isKind {E : XE} {d : Nat} {σ : Sto} {x1 : Int} {x2 : Int} (hd : 3 ≤ d) (hL : Lay σ)  (p0 : inR x1) (p1 : inR x2) (p2 : 0 ≤ σ.I 0 9 ∧ σ.I 0 9 ≤ 12) : CC E mX0_isKind d [aO 0, aI (x1), aI (x2)] σ (RZ σ ((0 ≤ x1 ∧ x1 < σ.I 0 9) ∧ σ.I 16 x1 = x2)) := by sorry
theorem sp_X9_isOf {E : XE} {d : Nat} {σ : Sto} {x1 : Int} {x2 : Int} (hd : 2 ≤ d) (hL : Lay σ)  (p0 : inR x1) (p1 : inR x2) (p2 : 0 ≤ σ.I 555 27 ∧ σ.I 555 27 ≤ 12) : CC E mX9_isOf d [aO 555, aI (x1), aI (x2)] σ (RZ σ ((0 ≤ x1 ∧ x1 < σ.I 555 27) ∧ σ.I 577 x1 = x2)) := by sorry
theorem sp_X9_isNode {E : XE} {d : Nat} {σ : Sto} {x1 : Int} (hd : 1 ≤ d) (hL : Lay σ)  (p0 : inR x1) : CC E mX9_isNode d [aO 555, aI (x1)] σ (RZ σ (0 ≤ x1 ∧ x1 < σ.I 555 58)) := by sorry
theorem sp_X0_isHit {E : XE} {d : Nat} {σ : Sto} {x1 : Int} (hd : 2 ≤ d) (hL : Lay σ)  (p0 : inR x1) (p1 : 0 ≤ σ.I 0 70 ∧ σ.I 0 70 ≤ 600) : CC E mX0_isHit d [aO 0, aI (x1)] σ (RZ σ (0 ≤ x1 ∧ x1 < σ.I 0 70)) := by sorry
theorem sp_X9_isHit {E : XE} {d : Nat} {σ : Sto} {x1 : Int} (hd : 1 ≤ d) (hL : Lay σ)  (p0 : inR x1) : CC E mX9_isHit d [aO 555, aI (x1)] σ (RZ σ (0 ≤ x1 ∧ x1 < σ.I 555 115)) := by sorry
theorem sp_X9_isGroup {E : XE} {d : Nat} {σ : Sto} {x1 : Int} (hd : 1 ≤ d) (hL : Lay σ)  (p0 : inR x1) : CC E mX9_isGroup d [aO 555, aI (x1)] σ (RZ σ (0 ≤ x1 ∧ x1 < σ.I 555 135)) := by sorry
theorem sp_X9_isWithin {E : XE} {d : Nat} {σ : Sto} {x0 : Int} {x1 : Int} (hd : 1 ≤ d) (hL : Lay σ)  (p0 : inR x0) (p1 : 0 ≤ x1 ∧ x1 ≤ 1000000) : CC E mX9_isWithin d [aI (x0), aI (x1)] σ (RZ σ (-x1 ≤ x0 ∧ x0 ≤ x1)) := by sorry
theorem sp_X9_isRow {E : XE} {d : Nat} {σ : Sto} {x0 : Int} {x1 : Int} {x2 : Int} {x3 : Int} (hd : 2 ≤ d) (hL : Lay σ)  (p0 : inR x0) (p1 : inR x1) (p2 : inR x2) (p3 : inR x3) : CC E mX9_isRow d [aI (x0), aI (x1), aI (x2), aI (x3)] σ (RZ σ ((-1000 ≤ x0 ∧ x0 ≤ 1000) ∧ (-1000 ≤ x1 ∧ x1 ≤ 1000) ∧ (-1000 ≤ x2 ∧ x2 ≤ 1000) ∧ (-1000 ≤ x3 ∧ x3 ≤ 1000))) := by sorry
theorem sp_X0_isNear {E : XE} {d : Nat} {σ : Sto} {x0 : Int} (hd : 2 ≤ d) (hL : Lay σ)  (p0 : inR x0) : CC E mX0_isNear d [aI (x0)] σ (RZ σ (-1000000 ≤ x0 ∧ x0 ≤ 1000000)) := by sorry
theorem sp_X0_isSmall {E : XE} {d : Nat} {σ : Sto} {x0 : Int} (hd : 2 ≤ d) (hL : Lay σ)  (p0 : inR x0) : CC E mX0_isSmall d [aI (x0)] σ (RZ σ (-1000 ≤ x0 ∧ x0 ≤ 1000)) := by sorry
theorem sp_X0_versionOf {E : XE} {d : Nat} {σ : Sto} {x1 : Int} (hd : 2 ≤ d) (hL : Lay σ)  (p0 : inR x1) : CC E mX0_versionOf d [aO 0, aI (x1)] σ (RI σ (if x1 = -1 then σ.I 0 40 else if 0 ≤ x1 ∧ x1 ≤ 3 then σ.I 48 x1 else -1)) := by sorry
theorem sp_X9_versionOf {E : XE} {d : Nat} {σ : Sto} {x1 : Int} (hd : 1 ≤ d) (hL : Lay σ)  (p0 : inR x1) : CC E mX9_versionOf d [aO 555, aI (x1)] σ (RI σ (if x1 = -1 then σ.I 555 53 else if 0 ≤ x1 ∧ x1 ≤ 3 then σ.I 597 x1 else -1)) := by sorry
theorem sp_X0_isInVersion {E : XE} {d : Nat} {σ : Sto} {x1 : Int} {x2 : Int} (hd : 1 ≤ d) (hL : Lay σ)  (p0 : 0 ≤ x1 ∧ x1 < 600) (p1 : inR x2) : CC E mX0_isInVersion d [aO 0, aI (x1), aI (x2)] σ (RZ σ (inV (σ.I 47) (σ.I 45) (σ.I 46) x2 x1)) := by sorry
theorem sp_X9_isIn {E : XE} {d : Nat} {σ : Sto} {x1 : Int} {x2 : Int} (hd : 1 ≤ d) (hL : Lay σ)  (p0 : 0 ≤ x1 ∧ x1 ≤ 600) (p1 : inR x2) : CC E mX9_isIn d [aO 555, aI (x1), aI (x2)] σ (RZ σ (inV (σ.I 594) (σ.I 592) (σ.I 593) x2 x1)) := by sorry
theorem sp_X0_isLive {E : XE} {d : Nat} {σ : Sto} {x1 : Int} (hd : 2 ≤ d) (hL : Lay σ)  (p0 : inR x1) (p1 : 0 ≤ σ.I 0 39 ∧ σ.I 0 39 ≤ 600) : CC E mX0_isLive d [aO 0, aI (x1)] σ (RZ σ (lv (σ.I 47) (σ.I 46) (σ.I 0 39) x1)) := by sorry
theorem sp_X9_isThere {E : XE} {d : Nat} {σ : Sto} {x1 : Int} (hd : 1 ≤ d) (hL : Lay σ)  (p0 : inR x1) (p1 : 0 ≤ σ.I 555 52 ∧ σ.I 555 52 ≤ 600) : CC E mX9_isThere d [aO 555, aI (x1)] σ (RZ σ (lv (σ.I 594) (σ.I 593) (σ.I 555 52) x1)) := by sorry
theorem sp_X0_objectsIn {E : XE} {d : Nat} {σ : Sto} {x1 : Int} (hd : 2 ≤ d) (hL : Lay σ)  (p0 : inR x1) (p1 : 0 ≤ σ.I 0 39 ∧ σ.I 0 39 ≤ 600) : CC E mX0_objectsIn d [aO 0, aI (x1)] σ (RI σ (cn (inV (σ.I 47) (σ.I 45) (σ.I 46) x1) (σ.I 0 39))) := by sorry
theorem sp_X0_isNeeded {E : XE} {d : Nat} {σ : Sto} {x1 : Int} (hd : 2 ≤ d) (hL : Lay σ)  (p0 : 0 ≤ x1 ∧ x1 < 600) : CC E mX0_isNeeded d [aO 0, aI (x1)] σ (RZ σ (ndd (σ.I 47) (σ.I 45) (σ.I 46) (σ.I 48) (σ.I 0 40) (σ.I 0 42) x1)) := by sorry
theorem sp_X9_isKept {E : XE} {d : Nat} {σ : Sto} {x1 : Int} (hd : 2 ≤ d) (hL : Lay σ)  (p0 : 0 ≤ x1 ∧ x1 < 600) : CC E mX9_isKept d [aO 555, aI (x1)] σ (RZ σ (ndd (σ.I 594) (σ.I 592) (σ.I 593) (σ.I 597) (σ.I 555 53) (σ.I 555 55) x1)) := by sorry
theorem sp_X0_told {E : XE} {d : Nat} {σ : Sto} {x1 : Int} (hd : 3 ≤ d) (hL : Lay σ)  (p0 : inR x1) (p1 : 0 ≤ σ.I 0 39 ∧ σ.I 0 39 ≤ 600) (p2 : 0 ≤ σ.I 0 29 ∧ σ.I 0 29 ≤ 24000) (p3 : 0 ≤ σ.I 0 30 ∧ σ.I 0 30 ≤ 24000) (p4 : 0 ≤ σ.I 0 31 ∧ σ.I 0 31 ≤ σ.I 0 20) : CC E mX0_told d [aO 0, aI (x1)] σ (RI σ (if x1 = 0 then σ.I 0 40 else if x1 = 1 then cn (inV (σ.I 47) (σ.I 45) (σ.I 46) (σ.I 0 40)) (σ.I 0 39) else if x1 = 2 then σ.I 0 42 else if x1 = 3 then cn (fun k => σ.I 47 k = 1) (σ.I 0 39) else if x1 = 4 then σ.I 0 22 else if x1 = 5 then σ.I 0 29 + σ.I 0 30 else if x1 = 6 then σ.I 0 20 else if x1 = 7 then σ.I 0 20 - σ.I 0 31 else if x1 = 8 then σ.I 0 1 else if x1 = 9 then σ.I 0 4 else if x1 = 10 then σ.I 0 9 else if x1 = 11 then σ.I 0 39 else -1)) := by sorry
theorem sp_X9_told {E : XE} {d : Nat} {σ : Sto} {x1 : Int} (hd : 2 ≤ d) (hL : Lay σ)  (p0 : inR x1) (p1 : 0 ≤ σ.I 555 52 ∧ σ.I 555 52 ≤ 600) (p2 : 0 ≤ σ.I 555 45 ∧ σ.I 555 45 ≤ σ.I 555 30) : CC E mX9_told d [aO 555, aI (x1)] σ (RI σ (if x1 = 0 then σ.I 555 53 else if x1 = 1 then cn (inV (σ.I 594) (σ.I 592) (σ.I 593) (σ.I 555 53)) (σ.I 555 52) else if x1 = 2 then σ.I 555 55 else if x1 = 3 then cn (fun k => σ.I 594 k = 1) (σ.I 555 52) else if x1 = 4 then σ.I 555 38 else if x1 = 5 then σ.I 555 44 else if x1 = 6 then σ.I 555 30 else if x1 = 7 then σ.I 555 30 - σ.I 555 45 else if x1 = 8 then σ.I 555 2 else if x1 = 9 then σ.I 555 3 else if x1 = 10 then σ.I 555 27 else if x1 = 11 then σ.I 555 52 else -1)) := by sorry
theorem sp_X0_forgetHits {E : XE} {d : Nat} {σ : Sto}  (hd : 1 ≤ d) (hL : Lay σ)   : CC E mX0_forgetHits d [aO 0] σ (RV (fun τ => RD σ τ (fun c i => if fgX c i then 0 else σ.I c i))) := by sorry
theorem sp_X9_noHits {E : XE} {d : Nat} {σ : Sto}  (hd : 1 ≤ d) (hL : Lay σ)   : CC E mX9_noHits d [aO 555] σ (RV (fun τ => RD σ τ (fun c i => if fgM c i then 0 else σ.I c i))) := by sorry
theorem sp_X0_makeVersion {E : XE} {d : Nat} {σ : Sto}  (hd : 2 ≤ d) (hL : Lay σ)  (p0 : 0 ≤ σ.I 0 41 ∧ σ.I 0 41 ≤ 1000000) : CC E mX0_makeVersion d [aO 0] σ (RVI (fun y τ => (y = σ.I 0 41 + 1) ∧ (RD σ τ (fun c i => if at2 c i 0 41 ∨ at2 c i 0 40 then σ.I 0 41 + 1 else if fgX c i then 0 else σ.I c i)))) := by sorry
theorem sp_X9_next {E : XE} {d : Nat} {σ : Sto}  (hd : 1 ≤ d) (hL : Lay σ)  (p0 : 0 ≤ σ.I 555 54 ∧ σ.I 555 54 ≤ 1000000) : CC E mX9_next d [aO 555] σ (RVI (fun y τ => (y = σ.I 555 54 + 1) ∧ (RD σ τ (fun c i => if at2 c i 555 54 ∨ at2 c i 555 53 then σ.I 555 54 + 1 else σ.I c i)))) := by sorry
theorem sp_X0_refresh {E : XE} {d : Nat} {σ : Sto}  (hd : 3 ≤ d) (hL : Lay σ)  (p0 : 0 ≤ σ.I 0 41 ∧ σ.I 0 41 ≤ 1000000) : CC E mX0_refresh d [aO 0] σ (RVI (fun y τ => (y = σ.I 0 41 + 1) ∧ (RD σ τ (fun c i => if at2 c i 0 41 ∨ at2 c i 0 40 then σ.I 0 41 + 1 else if fgX c i then 0 else σ.I c i)))) := by sorry
theorem sp_X9_refresh {E : XE} {d : Nat} {σ : Sto}  (hd : 2 ≤ d) (hL : Lay σ)  (p0 : 0 ≤ σ.I 555 54 ∧ σ.I 555 54 ≤ 1000000) : CC E mX9_refresh d [aO 555] σ (RVI (fun y τ => (y = σ.I 555 54 + 1) ∧ (RD σ τ (fun c i => if at2 c i 555 54 ∨ at2 c i 555 53 then σ.I 555 54 + 1 else if fgM c i then 0 else σ.I c i)))) := by sorry
theorem sp_X0_commit {E : XE} {d : Nat} {σ : Sto}  (hd : 3 ≤ d) (hL : Lay σ)  (p0 : 0 ≤ σ.I 0 41 ∧ σ.I 0 41 ≤ 1000000) : CC E mX0_commit d [aO 0] σ (RVI (fun y τ => (y = σ.I 0 41 + 1) ∧ (RD σ τ (fun c i => if at2 c i 0 41 ∨ at2 c i 0 40 ∨ at2 c i 0 42 then σ.I 0 41 + 1 else if fgX c i then 0 else σ.I c i)))) := by sorry
theorem sp_X9_commit {E : XE} {d : Nat} {σ : Sto}  (hd : 2 ≤ d) (hL : Lay σ)  (p0 : 0 ≤ σ.I 555 54 ∧ σ.I 555 54 ≤ 1000000) : CC E mX9_commit d [aO 555] σ (RVI (fun y τ => (y = σ.I 555 54 + 1) ∧ (RD σ τ (fun c i => if at2 c i 555 54 ∨ at2 c i 555 53 ∨ at2 c i 555 55 then σ.I 555 54 + 1 else if fgM c i then 0 else σ.I c i)))) := by sorry
theorem sp_X0_pin {E : XE} {d : Nat} {σ : Sto}  (hd : 1 ≤ d) (hL : Lay σ)   : CC E mX0_pin d [aO 0] σ (RVI (fun y τ => (y = if fpin (σ.I 48) = 4 then -3 else fpin (σ.I 48)) ∧ (RD σ τ (fun c i => if fpin (σ.I 48) < 4 ∧ at2 c i 48 (fpin (σ.I 48)) then σ.I 0 40 else σ.I c i)))) := by sorry
theorem sp_X9_pin {E : XE} {d : Nat} {σ : Sto}  (hd : 1 ≤ d) (hL : Lay σ)   : CC E mX9_pin d [aO 555] σ (RVI (fun y τ => (y = if fpin (σ.I 597) = 4 then -3 else fpin (σ.I 597)) ∧ (RD σ τ (fun c i => if fpin (σ.I 597) < 4 ∧ at2 c i 597 (fpin (σ.I 597)) then σ.I 555 53 else σ.I c i)))) := by sorry
theorem sp_X0_unpin {E : XE} {d : Nat} {σ : Sto} {x1 : Int} (hd : 2 ≤ d) (hL : Lay σ)  (p0 : inR x1) : CC E mX0_unpin d [aO 0, aI (x1)] σ (RVI (fun y τ => (y = if 0 ≤ x1 ∧ x1 < 4 ∧ 0 ≤ σ.I 48 x1 then σ.I 48 x1 else -1) ∧ (RD σ τ (fun c i => if (0 ≤ x1 ∧ x1 < 4 ∧ 0 ≤ σ.I 48 x1) ∧ at2 c i 48 x1 then -1 else if (0 ≤ x1 ∧ x1 < 4 ∧ 0 ≤ σ.I 48 x1) ∧ fgX c i then 0 else σ.I c i)))) := by sorry
theorem sp_X9_unpin {E : XE} {d : Nat} {σ : Sto} {x1 : Int} (hd : 2 ≤ d) (hL : Lay σ)  (p0 : inR x1) : CC E mX9_unpin d [aO 555, aI (x1)] σ (RVI (fun y τ => (y = if 0 ≤ x1 ∧ x1 < 4 ∧ 0 ≤ σ.I 597 x1 then σ.I 597 x1 else -1) ∧ (RD σ τ (fun c i => if (0 ≤ x1 ∧ x1 < 4 ∧ 0 ≤ σ.I 597 x1) ∧ at2 c i 597 x1 then -1 else if (0 ≤ x1 ∧ x1 < 4 ∧ 0 ≤ σ.I 597 x1) ∧ fgM c i then 0 else σ.I c i)))) := by sorry
end
section
/-! contracts: printed by tools/mk.py out of s23_shards.py -/
set_option maxRecDepth 100000
set_option maxHeartbeats 1500000
/-- for all from i on below n -/
def alF (p : Int → Prop) (i n : Int) : Prop := ∀ j, i ≤ j → j < n → p j
theorem alF_0 (p : Int → Prop) (i n : Int) (h : i = 0) : alF p i n ↔ alN p n := by subst h; exact Iff.rfl
theorem alF_h (p : Int → Prop) (i n : Int) (h : alF p i n) (hn : i < n) : p i := h i (Int.le_refl _) hn
theorem alF_s (p : Int → Prop) (i m n : Int) (h : i < n) (hm : m = i + 1) : alF p i n ↔ (p i ∧ alF p m n) := by
  constructor
  · intro q; exact ⟨q i (Int.le_refl _) h, fun j h1 h2 => q j (by omega) h2⟩
  · rintro ⟨q1, q2⟩ j h1 h2
    by_cases e : j = i
    · subst e; exact q1
    · exact q2 j (by omega) h2
theorem sp_X0_nodeOf {E : XE} {d : Nat} {σ : Sto} {x1 : Int} (hd : 1 ≤ d) (hL : Lay σ)  (p0 : 1 ≤ σ.I 0 96 ∧ σ.I 0 96 ≤ 8) (p1 : 0 ≤ x1 ∧ x1 ≤ 1000) : CC E mX0_nodeOf d [aO 0, aI (x1)] σ (RI σ (if nOf (σ.I 210) (σ.I 0 96) x1 = -1 then -1 else nOf (σ.I 210) (σ.I 0 96) x1)) := by sorry
theorem sp_X0_askShards {E : XE} {d : Nat} {σ : Sto}  (hd : 2 ≤ d) (hL : Lay σ)  (p0 : 1 ≤ σ.I 0 96 ∧ σ.I 0 96 ≤ 8) (p1 : 1 ≤ σ.I 0 95 ∧ σ.I 0 95 ≤ 8) (p2 : bd_0_1000000 σ 211 8) : CC E mX0_askShards d [aO 0] σ (RVZ (fun y τ => (y = 1 ↔ alN (fun s => 0 ≤ nOf (σ.I 210) (σ.I 0 96) s) (σ.I 0 95)) ∧ (RD σ τ (fun c i => if y = 1 ∧ c = 211 then σ.I c i + cn (fun s => nOf (σ.I 210) (σ.I 0 96) s = i) (σ.I 0 95) else σ.I c i)))) := by sorry
theorem sp_X0_spread {E : XE} {d : Nat} {σ : Sto} {x1 : Int} {x2 : Int} (hd : 2 ≤ d) (hL : Lay σ)  (p0 : inR x1) (p1 : inR x2) : CC E mX0_spread d [aO 0, aI (x1), aI (x2)] σ (RVI (fun y τ => (y = if 1 ≤ x1 ∧ x1 ≤ 8 ∧ 1 ≤ x2 ∧ x2 ≤ 8 then 1 else -1) ∧ (RD σ τ (fun c i => if (1 ≤ x1 ∧ x1 ≤ 8 ∧ 1 ≤ x2 ∧ x2 ≤ 8) ∧ at2 c i 0 95 then x1 else if (1 ≤ x1 ∧ x1 ≤ 8 ∧ 1 ≤ x2 ∧ x2 ≤ 8) ∧ at2 c i 0 96 then x2 else if (1 ≤ x1 ∧ x1 ≤ 8 ∧ 1 ≤ x2 ∧ x2 ≤ 8) ∧ (rg c i 210 0 8 ∨ rg c i 211 0 8) then 0 else σ.I c i)))) := by sorry
theorem sp_X0_lose {E : XE} {d : Nat} {σ : Sto} {x1 : Int} {x2 : Int} (hd : 2 ≤ d) (hL : Lay σ)  (p0 : 1 ≤ σ.I 0 96 ∧ σ.I 0 96 ≤ 8) (p1 : inR x1) (p2 : inR x2) : CC E mX0_lose d [aO 0, aI (x1), aI (x2)] σ (RVI (fun y τ => (y = if (0 ≤ x1 ∧ x1 < σ.I 0 96 ∧ 0 ≤ x2 ∧ x2 ≤ 1) then (if σ.I 210 x1 = 1 - x2 then 0 else 1) else -1) ∧ (RD σ τ (fun c i => if (0 ≤ x1 ∧ x1 < σ.I 0 96 ∧ 0 ≤ x2 ∧ x2 ≤ 1) ∧ at2 c i 210 x1 then 1 - x2 else σ.I c i)))) := by sorry
theorem sp_X0_route {E : XE} {d : Nat} {σ : Sto} {x1 : Int} (hd : 3 ≤ d) (hL : Lay σ)  (p0 : 1 ≤ σ.I 0 96 ∧ σ.I 0 96 ≤ 8) (p1 : 1 ≤ σ.I 0 95 ∧ σ.I 0 95 ≤ 8) (p2 : inR x1) : CC E mX0_route d [aO 0, aI (x1)] σ (RI σ (if ¬ (0 ≤ x1 ∧ x1 < 600) then -1 else if nOf (σ.I 210) (σ.I 0 96) (tm x1 (σ.I 0 95)) = -1 then -4 else nOf (σ.I 210) (σ.I 0 96) (tm x1 (σ.I 0 95)))) := by sorry
theorem sp_X0_asked {E : XE} {d : Nat} {σ : Sto} {x1 : Int} (hd : 2 ≤ d) (hL : Lay σ)  (p0 : 1 ≤ σ.I 0 96 ∧ σ.I 0 96 ≤ 8) (p1 : inR x1) : CC E mX0_asked d [aO 0, aI (x1)] σ (RI σ (if 0 ≤ x1 ∧ x1 < σ.I 0 96 then σ.I 211 x1 else -1)) := by sorry
theorem sp_X0_formula {E : XE} {d : Nat} {σ : Sto} {x1 : Int} (hd : 2 ≤ d) (hL : Lay σ)  (p0 : inR x1) : CC E mX0_formula d [aO 0, aI (x1)] σ (RVI (fun y τ => (y = if 0 ≤ x1 ∧ x1 ≤ 2 then σ.I 0 63 else -1) ∧ (RD σ τ (fun c i => if (0 ≤ x1 ∧ x1 ≤ 2) ∧ at2 c i 0 63 then x1 else σ.I c i)))) := by sorry
theorem sp_X0_user {E : XE} {d : Nat} {σ : Sto} {x1 : Int} (hd : 2 ≤ d) (hL : Lay σ)  (p0 : inR x1) : CC E mX0_user d [aO 0, aI (x1)] σ (RVI (fun y τ => (y = if 0 ≤ x1 ∧ x1 ≤ 3 then σ.I 0 46 else -1) ∧ (RD σ τ (fun c i => if (0 ≤ x1 ∧ x1 ≤ 3) ∧ at2 c i 0 46 then x1 else if (0 ≤ x1 ∧ x1 ≤ 3) ∧ fgX c i then 0 else σ.I c i)))) := by sorry
theorem sp_X0_sort {E : XE} {d : Nat} {σ : Sto} {x1 : Int} {x2 : Int} (hd : 4 ≤ d) (hL : Lay σ)  (p0 : inR x1) (p1 : inR x2) (p2 : 0 ≤ σ.I 0 9 ∧ σ.I 0 9 ≤ 12) : CC E mX0_sort d [aO 0, aI (x1), aI (x2)] σ (RVI (fun y τ => (y = if ((0 ≤ x2 ∧ x2 ≤ 1) ∧ (x1 = -1 ∨ (0 ≤ x1 ∧ x1 < σ.I 0 9) ∧ σ.I 16 x1 = 2)) then 1 else -1) ∧ (RD σ τ (fun c i => if ((0 ≤ x2 ∧ x2 ≤ 1) ∧ (x1 = -1 ∨ (0 ≤ x1 ∧ x1 < σ.I 0 9) ∧ σ.I 16 x1 = 2)) ∧ at2 c i 0 64 then x1 else if ((0 ≤ x2 ∧ x2 ≤ 1) ∧ (x1 = -1 ∨ (0 ≤ x1 ∧ x1 < σ.I 0 9) ∧ σ.I 16 x1 = 2)) ∧ at2 c i 0 65 then x2 else σ.I c i)))) := by sorry
theorem sp_X0_field {E : XE} {d : Nat} {σ : Sto} {x1 : Int} {x2 : Int} (hd : 4 ≤ d) (hL : Lay σ)  (p0 : inR x1) (p1 : inR x2) (p2 : 0 ≤ σ.I 0 9 ∧ σ.I 0 9 ≤ 12) (p3 : 0 ≤ σ.I 0 4 ∧ σ.I 0 4 ≤ 6) : CC E mX0_field d [aO 0, aI (x1), aI (x2)] σ (RVI (fun y τ => (y = if (x1 < 0 ∨ 4 < x1 ∨ x1 = 0 ∧ ¬ (0 ≤ x2 ∧ x2 < σ.I 0 4)) then -1 else if σ.I 0 9 = 12 then -3 else σ.I 0 9) ∧ (RD σ τ (fun c i => if (¬ (x1 < 0 ∨ 4 < x1 ∨ x1 = 0 ∧ ¬ (0 ≤ x2 ∧ x2 < σ.I 0 4)) ∧ σ.I 0 9 ≠ 12) ∧ at2 c i 16 (σ.I 0 9) then x1 else if (¬ (x1 < 0 ∨ 4 < x1 ∨ x1 = 0 ∧ ¬ (0 ≤ x2 ∧ x2 < σ.I 0 4)) ∧ σ.I 0 9 ≠ 12) ∧ at2 c i 17 (σ.I 0 9) then if x1 = 0 then x2 else 0 else if (¬ (x1 < 0 ∨ 4 < x1 ∨ x1 = 0 ∧ ¬ (0 ≤ x2 ∧ x2 < σ.I 0 4)) ∧ σ.I 0 9 ≠ 12) ∧ at2 c i 0 9 then σ.I 0 9 + 1 else σ.I c i)))) := by sorry
theorem sp_X9_nodeOf {E : XE} {d : Nat} {σ : Sto} {x1 : Int} (hd : 1 ≤ d) (hL : Lay σ)  (p0 : 1 ≤ σ.I 555 58 ∧ σ.I 555 58 ≤ 8) (p1 : 0 ≤ x1 ∧ x1 ≤ 1000) : CC E mX9_nodeOf d [aO 555, aI (x1)] σ (RI σ (if nOf (σ.I 598) (σ.I 555 58) x1 = -1 then -4 else nOf (σ.I 598) (σ.I 555 58) x1)) := by sorry
theorem sp_X9_ask {E : XE} {d : Nat} {σ : Sto}  (hd : 2 ≤ d) (hL : Lay σ)  (p0 : 1 ≤ σ.I 555 58 ∧ σ.I 555 58 ≤ 8) (p1 : 1 ≤ σ.I 555 57 ∧ σ.I 555 57 ≤ 8) (p2 : bd_0_1000000 σ 599 8) : CC E mX9_ask d [aO 555] σ (RVZ (fun y τ => (y = 1 ↔ alN (fun s => 0 ≤ nOf (σ.I 598) (σ.I 555 58) s) (σ.I 555 57)) ∧ (RD σ τ (fun c i => if y = 1 ∧ c = 599 then σ.I c i + cn (fun s => nOf (σ.I 598) (σ.I 555 58) s = i) (σ.I 555 57) else σ.I c i)))) := by sorry
theorem sp_X9_spread {E : XE} {d : Nat} {σ : Sto} {x1 : Int} {x2 : Int} (hd : 2 ≤ d) (hL : Lay σ)  (p0 : inR x1) (p1 : inR x2) : CC E mX9_spread d [aO 555, aI (x1), aI (x2)] σ (RVI (fun y τ => (y = if 1 ≤ x1 ∧ x1 ≤ 8 ∧ 1 ≤ x2 ∧ x2 ≤ 8 then 1 else -1) ∧ (RD σ τ (fun c i => if (1 ≤ x1 ∧ x1 ≤ 8 ∧ 1 ≤ x2 ∧ x2 ≤ 8) ∧ at2 c i 555 57 then x1 else if (1 ≤ x1 ∧ x1 ≤ 8 ∧ 1 ≤ x2 ∧ x2 ≤ 8) ∧ at2 c i 555 58 then x2 else if (1 ≤ x1 ∧ x1 ≤ 8 ∧ 1 ≤ x2 ∧ x2 ≤ 8) ∧ (rg c i 598 0 8 ∨ rg c i 599 0 8) then 0 else σ.I c i)))) := by sorry
theorem sp_X9_lose {E : XE} {d : Nat} {σ : Sto} {x1 : Int} {x2 : Int} (hd : 2 ≤ d) (hL : Lay σ)  (p0 : 1 ≤ σ.I 555 58 ∧ σ.I 555 58 ≤ 8) (p1 : inR x1) (p2 : inR x2) : CC E mX9_lose d [aO 555, aI (x1), aI (x2)] σ (RVI (fun y τ => (y = if (0 ≤ x1 ∧ x1 < σ.I 555 58 ∧ 0 ≤ x2 ∧ x2 ≤ 1) then (if σ.I 598 x1 = 1 - x2 then 0 else 1) else -1) ∧ (RD σ τ (fun c i => if (0 ≤ x1 ∧ x1 < σ.I 555 58 ∧ 0 ≤ x2 ∧ x2 ≤ 1) ∧ at2 c i 598 x1 then 1 - x2 else σ.I c i)))) := by sorry
theorem sp_X9_route {E : XE} {d : Nat} {σ : Sto} {x1 : Int} (hd : 3 ≤ d) (hL : Lay σ)  (p0 : 1 ≤ σ.I 555 58 ∧ σ.I 555 58 ≤ 8) (p1 : 1 ≤ σ.I 555 57 ∧ σ.I 555 57 ≤ 8) (p2 : inR x1) : CC E mX9_route d [aO 555, aI (x1)] σ (RI σ (if ¬ (0 ≤ x1 ∧ x1 < 600) then -1 else if nOf (σ.I 598) (σ.I 555 58) (tm x1 (σ.I 555 57)) = -1 then -4 else nOf (σ.I 598) (σ.I 555 58) (tm x1 (σ.I 555 57)))) := by sorry
theorem sp_X9_asked {E : XE} {d : Nat} {σ : Sto} {x1 : Int} (hd : 2 ≤ d) (hL : Lay σ)  (p0 : 1 ≤ σ.I 555 58 ∧ σ.I 555 58 ≤ 8) (p1 : inR x1) : CC E mX9_asked d [aO 555, aI (x1)] σ (RI σ (if 0 ≤ x1 ∧ x1 < σ.I 555 58 then σ.I 599 x1 else -1)) := by sorry
theorem sp_X9_formula {E : XE} {d : Nat} {σ : Sto} {x1 : Int} (hd : 2 ≤ d) (hL : Lay σ)  (p0 : inR x1) : CC E mX9_formula d [aO 555, aI (x1)] σ (RVI (fun y τ => (y = if 0 ≤ x1 ∧ x1 ≤ 2 then σ.I 555 98 else -1) ∧ (RD σ τ (fun c i => if (0 ≤ x1 ∧ x1 ≤ 2) ∧ at2 c i 555 98 then x1 else σ.I c i)))) := by sorry
theorem sp_X9_user {E : XE} {d : Nat} {σ : Sto} {x1 : Int} (hd : 2 ≤ d) (hL : Lay σ)  (p0 : inR x1) : CC E mX9_user d [aO 555, aI (x1)] σ (RVI (fun y τ => (y = if 0 ≤ x1 ∧ x1 ≤ 3 then σ.I 555 61 else -1) ∧ (RD σ τ (fun c i => if (0 ≤ x1 ∧ x1 ≤ 3) ∧ at2 c i 555 61 then x1 else if (0 ≤ x1 ∧ x1 ≤ 3) ∧ fgM c i then 0 else σ.I c i)))) := by sorry
theorem sp_X9_sort {E : XE} {d : Nat} {σ : Sto} {x1 : Int} {x2 : Int} (hd : 4 ≤ d) (hL : Lay σ)  (p0 : inR x1) (p1 : inR x2) (p2 : 0 ≤ σ.I 555 27 ∧ σ.I 555 27 ≤ 12) : CC E mX9_sort d [aO 555, aI (x1), aI (x2)] σ (RVI (fun y τ => (y = if ((0 ≤ x2 ∧ x2 ≤ 1) ∧ (x1 = -1 ∨ (0 ≤ x1 ∧ x1 < σ.I 555 27) ∧ σ.I 577 x1 = 2)) then 1 else -1) ∧ (RD σ τ (fun c i => if ((0 ≤ x2 ∧ x2 ≤ 1) ∧ (x1 = -1 ∨ (0 ≤ x1 ∧ x1 < σ.I 555 27) ∧ σ.I 577 x1 = 2)) ∧ at2 c i 555 131 then x1 else if ((0 ≤ x2 ∧ x2 ≤ 1) ∧ (x1 = -1 ∨ (0 ≤ x1 ∧ x1 < σ.I 555 27) ∧ σ.I 577 x1 = 2)) ∧ at2 c i 555 132 then x2 else σ.I c i)))) := by sorry
theorem sp_X9_field {E : XE} {d : Nat} {σ : Sto} {x1 : Int} {x2 : Int} (hd : 4 ≤ d) (hL : Lay σ)  (p0 : inR x1) (p1 : inR x2) (p2 : 0 ≤ σ.I 555 27 ∧ σ.I 555 27 ≤ 12) (p3 : 0 ≤ σ.I 555 3 ∧ σ.I 555 3 ≤ 6) : CC E mX9_field d [aO 555, aI (x1), aI (x2)] σ (RVI (fun y τ => (y = if (x1 < 0 ∨ 4 < x1 ∨ x1 = 0 ∧ ¬ (0 ≤ x2 ∧ x2 < σ.I 555 3)) then -1 else if σ.I 555 27 = 12 then -3 else σ.I 555 27) ∧ (RD σ τ (fun c i => if (¬ (x1 < 0 ∨ 4 < x1 ∨ x1 = 0 ∧ ¬ (0 ≤ x2 ∧ x2 < σ.I 555 3)) ∧ σ.I 555 27 ≠ 12) ∧ at2 c i 577 (σ.I 555 27) then x1 else if (¬ (x1 < 0 ∨ 4 < x1 ∨ x1 = 0 ∧ ¬ (0 ≤ x2 ∧ x2 < σ.I 555 3)) ∧ σ.I 555 27 ≠ 12) ∧ at2 c i 578 (σ.I 555 27) then if x1 = 0 then x2 else 0 else if (¬ (x1 < 0 ∨ 4 < x1 ∨ x1 = 0 ∧ ¬ (0 ≤ x2 ∧ x2 < σ.I 555 3)) ∧ σ.I 555 27 ≠ 12) ∧ at2 c i 555 27 then σ.I 555 27 + 1 else σ.I c i)))) := by sorry
end
section
/-! contracts: printed by tools/mk.py out of s24_values.py -/
set_option maxRecDepth 100000
set_option maxHeartbeats 1500000
theorem w32_i (x : Int) (h1 : -2147483648 ≤ x) (h2 : x < 2147483648) : w32 x = x := w32_id ⟨h1, h2⟩
theorem w64_i (x : Int) (h1 : -9223372036854775808 ≤ x) (h2 : x < 9223372036854775808) : w64 x = x := w64_id ⟨h1, h2⟩
theorem pk2_in (x y : Int) (h1 : -1000000 ≤ x) (h2 : x ≤ 1000000) : -9223372036854775808 ≤ pk2 x y ∧ pk2 x y < 9223372036854775808 := by unfold pk2; omega
theorem pk4_in (a b c d : Int) : inL (pk4 a b c d) := w64_in _
theorem sp_X9_isFull {E : XE} {d : Nat} {σ : Sto} {x1 : Int} {x2 : Int} (hd : 1 ≤ d) (hL : Lay σ)  (p0 : 0 ≤ σ.I 555 45 ∧ σ.I 555 45 ≤ σ.I 555 30) (p1 : σ.I 555 30 ≤ 6000 ∧ σ.I 555 30 ≤ σ.I 555 45 + 24) (p2 : 0 ≤ σ.I 555 38 ∧ σ.I 555 38 ≤ 60000) (p3 : 0 ≤ σ.I 555 44 ∧ σ.I 555 44 ≤ 24000) (p4 : 0 ≤ x1 ∧ x1 ≤ 100000) (p5 : 0 ≤ x2 ∧ x2 ≤ 100000) : CC E mX9_isFull d [aO 555, aI (x1), aI (x2)] σ (RZ σ (σ.I 555 30 - σ.I 555 45 = 24 ∨ 60000 < σ.I 555 38 + x1 ∨ 24000 < σ.I 555 44 + x2 ∨ σ.I 555 30 = 6000)) := by sorry
theorem sp_X9_begin {E : XE} {d : Nat} {σ : Sto} {x1 : Int} (hd : 1 ≤ d) (hL : Lay σ)  (p0 : 0 ≤ σ.I 555 30 ∧ σ.I 555 30 < 6000) (p1 : inR x1) : CC E mX9_begin d [aO 555, aI (x1)] σ (RV (fun τ => RD σ τ (fun c i => if at2 c i 579 (σ.I 555 30) then x1 else if at2 c i 580 (σ.I 555 30) then σ.I 555 38 else if at2 c i 581 (σ.I 555 30) then 0 else if at2 c i 582 (σ.I 555 30) then σ.I 555 44 else if at2 c i 583 (σ.I 555 30) then 0 else σ.I c i))) := by sorry
theorem sp_X9_end {E : XE} {d : Nat} {σ : Sto}  (hd : 1 ≤ d) (hL : Lay σ)  (p0 : 0 ≤ σ.I 555 30 ∧ σ.I 555 30 < 6000) (p1 : 0 ≤ σ.I 555 45 ∧ σ.I 555 45 ≤ σ.I 555 30) : CC E mX9_end d [aO 555] σ (RVI (fun y τ => (y = σ.I 555 30 + 1 - σ.I 555 45) ∧ (RD σ τ (fun c i => if at2 c i 582 (σ.I 555 30 + 1) then σ.I 555 44 else if at2 c i 555 30 then σ.I 555 30 + 1 else σ.I c i)))) := by sorry
theorem sp_X9_number {E : XE} {d : Nat} {σ : Sto} {x1 : Int} {y2 : Int} (hd : 3 ≤ d) (hL : Lay σ)  (p0 : 0 ≤ σ.I 555 45 ∧ σ.I 555 45 ≤ σ.I 555 30) (p1 : σ.I 555 30 ≤ 6000 ∧ σ.I 555 30 ≤ σ.I 555 45 + 24) (p2 : 0 ≤ σ.I 555 38 ∧ σ.I 555 38 ≤ 60000) (p3 : 0 ≤ σ.I 555 44 ∧ σ.I 555 44 ≤ 24000) (p4 : 0 ≤ σ.I 555 27 ∧ σ.I 555 27 ≤ 12) (p5 : inR x1) (p6 : inL y2) : CC E mX9_number d [aO 555, aI (x1), aL (y2)] σ (RVI (fun y τ => (y = if ¬ (0 ≤ x1 ∧ x1 < σ.I 555 27 ∧ σ.I 577 x1 = 2) then -1 else if (σ.I 555 30 - σ.I 555 45 = 24 ∨ σ.I 555 30 = 6000) then -3 else σ.I 555 30 + 1 - σ.I 555 45) ∧ (RD σ τ (fun c i => if ((0 ≤ x1 ∧ x1 < σ.I 555 27 ∧ σ.I 577 x1 = 2) ∧ ¬ (σ.I 555 30 - σ.I 555 45 = 24 ∨ σ.I 555 30 = 6000)) then (if at2 c i 579 (σ.I 555 30) then x1 else if at2 c i 580 (σ.I 555 30) then σ.I 555 38 else if at2 c i 581 (σ.I 555 30) then 0 else if at2 c i 582 (σ.I 555 30) then σ.I 555 44 else if at2 c i 582 (σ.I 555 30 + 1) then σ.I 555 44 else if at2 c i 583 (σ.I 555 30) then y2 else if at2 c i 555 30 then σ.I 555 30 + 1 else σ.I c i) else σ.I c i)))) := by sorry
theorem sp_X9_fourOf {E : XE} {d : Nat} {σ : Sto} {x1 : Int} {x2 : Int} {x3 : Int} {x4 : Int} {x5 : Int} (hd : 2 ≤ d) (hL : Lay σ)  (p0 : 0 ≤ σ.I 555 45 ∧ σ.I 555 45 ≤ σ.I 555 30) (p1 : σ.I 555 30 ≤ 6000 ∧ σ.I 555 30 ≤ σ.I 555 45 + 24) (p2 : 0 ≤ σ.I 555 38 ∧ σ.I 555 38 ≤ 60000) (p3 : 0 ≤ σ.I 555 44 ∧ σ.I 555 44 ≤ 24000) (p4 : inR x1) (p5 : inR x2) (p6 : inR x3) (p7 : inR x4) (p8 : inR x5) : CC E mX9_fourOf d [aO 555, aI (x1), aI (x2), aI (x3), aI (x4), aI (x5)] σ (RVI (fun y τ => (y = if (σ.I 555 30 - σ.I 555 45 = 24 ∨ σ.I 555 30 = 6000) then -3 else σ.I 555 30 + 1 - σ.I 555 45) ∧ (RD σ τ (fun c i => if (¬ (σ.I 555 30 - σ.I 555 45 = 24 ∨ σ.I 555 30 = 6000)) then (if at2 c i 579 (σ.I 555 30) then x1 else if at2 c i 580 (σ.I 555 30) then σ.I 555 38 else if at2 c i 581 (σ.I 555 30) then 0 else if at2 c i 582 (σ.I 555 30) then σ.I 555 44 else if at2 c i 582 (σ.I 555 30 + 1) then σ.I 555 44 else if at2 c i 583 (σ.I 555 30) then 0 else if at2 c i 555 30 then σ.I 555 30 + 1 else if at2 c i 584 (4 * σ.I 555 30 + 0) then x2 else if at2 c i 584 (4 * σ.I 555 30 + 1) then x3 else if at2 c i 584 (4 * σ.I 555 30 + 2) then x4 else if at2 c i 584 (4 * σ.I 555 30 + 3) then x5 else σ.I c i) else σ.I c i)))) := by sorry
theorem sp_X9_place {E : XE} {d : Nat} {σ : Sto} {x1 : Int} {x2 : Int} {x3 : Int} (hd : 3 ≤ d) (hL : Lay σ)  (p0 : 0 ≤ σ.I 555 45 ∧ σ.I 555 45 ≤ σ.I 555 30) (p1 : σ.I 555 30 ≤ 6000 ∧ σ.I 555 30 ≤ σ.I 555 45 + 24) (p2 : 0 ≤ σ.I 555 38 ∧ σ.I 555 38 ≤ 60000) (p3 : 0 ≤ σ.I 555 44 ∧ σ.I 555 44 ≤ 24000) (p4 : 0 ≤ σ.I 555 27 ∧ σ.I 555 27 ≤ 12) (p5 : inR x1) (p6 : inR x2) (p7 : inR x3) : CC E mX9_place d [aO 555, aI (x1), aI (x2), aI (x3)] σ (RVI (fun y τ => (y = if ¬ ((0 ≤ x1 ∧ x1 < σ.I 555 27 ∧ σ.I 577 x1 = 3) ∧ (-1000000 ≤ x2 ∧ x2 ≤ 1000000) ∧ (-1000000 ≤ x3 ∧ x3 ≤ 1000000)) then -1 else if (σ.I 555 30 - σ.I 555 45 = 24 ∨ σ.I 555 30 = 6000) then -3 else σ.I 555 30 + 1 - σ.I 555 45) ∧ (RD σ τ (fun c i => if (((0 ≤ x1 ∧ x1 < σ.I 555 27 ∧ σ.I 577 x1 = 3) ∧ (-1000000 ≤ x2 ∧ x2 ≤ 1000000) ∧ (-1000000 ≤ x3 ∧ x3 ≤ 1000000)) ∧ ¬ (σ.I 555 30 - σ.I 555 45 = 24 ∨ σ.I 555 30 = 6000)) then (if at2 c i 579 (σ.I 555 30) then x1 else if at2 c i 580 (σ.I 555 30) then σ.I 555 38 else if at2 c i 581 (σ.I 555 30) then 0 else if at2 c i 582 (σ.I 555 30) then σ.I 555 44 else if at2 c i 582 (σ.I 555 30 + 1) then σ.I 555 44 else if at2 c i 583 (σ.I 555 30) then 0 else if at2 c i 555 30 then σ.I 555 30 + 1 else if at2 c i 584 (4 * σ.I 555 30 + 0) then x2 else if at2 c i 584 (4 * σ.I 555 30 + 1) then x3 else if at2 c i 584 (4 * σ.I 555 30 + 2) then 0 else if at2 c i 584 (4 * σ.I 555 30 + 3) then 0 else σ.I c i) else σ.I c i)))) := by sorry
theorem sp_X9_row {E : XE} {d : Nat} {σ : Sto} {x1 : Int} {x2 : Int} {x3 : Int} {x4 : Int} {x5 : Int} (hd : 3 ≤ d) (hL : Lay σ)  (p0 : 0 ≤ σ.I 555 45 ∧ σ.I 555 45 ≤ σ.I 555 30) (p1 : σ.I 555 30 ≤ 6000 ∧ σ.I 555 30 ≤ σ.I 555 45 + 24) (p2 : 0 ≤ σ.I 555 38 ∧ σ.I 555 38 ≤ 60000) (p3 : 0 ≤ σ.I 555 44 ∧ σ.I 555 44 ≤ 24000) (p4 : 0 ≤ σ.I 555 27 ∧ σ.I 555 27 ≤ 12) (p5 : inR x1) (p6 : inR x2) (p7 : inR x3) (p8 : inR x4) (p9 : inR x5) : CC E mX9_row d [aO 555, aI (x1), aI (x2), aI (x3), aI (x4), aI (x5)] σ (RVI (fun y τ => (y = if ¬ ((0 ≤ x1 ∧ x1 < σ.I 555 27 ∧ σ.I 577 x1 = 4) ∧ (-1000 ≤ x2 ∧ x2 ≤ 1000) ∧ (-1000 ≤ x3 ∧ x3 ≤ 1000) ∧ (-1000 ≤ x4 ∧ x4 ≤ 1000) ∧ (-1000 ≤ x5 ∧ x5 ≤ 1000)) then -1 else if (σ.I 555 30 - σ.I 555 45 = 24 ∨ σ.I 555 30 = 6000) then -3 else σ.I 555 30 + 1 - σ.I 555 45) ∧ (RD σ τ (fun c i => if (((0 ≤ x1 ∧ x1 < σ.I 555 27 ∧ σ.I 577 x1 = 4) ∧ (-1000 ≤ x2 ∧ x2 ≤ 1000) ∧ (-1000 ≤ x3 ∧ x3 ≤ 1000) ∧ (-1000 ≤ x4 ∧ x4 ≤ 1000) ∧ (-1000 ≤ x5 ∧ x5 ≤ 1000)) ∧ ¬ (σ.I 555 30 - σ.I 555 45 = 24 ∨ σ.I 555 30 = 6000)) then (if at2 c i 579 (σ.I 555 30) then x1 else if at2 c i 580 (σ.I 555 30) then σ.I 555 38 else if at2 c i 581 (σ.I 555 30) then 0 else if at2 c i 582 (σ.I 555 30) then σ.I 555 44 else if at2 c i 582 (σ.I 555 30 + 1) then σ.I 555 44 else if at2 c i 583 (σ.I 555 30) then 0 else if at2 c i 555 30 then σ.I 555 30 + 1 else if at2 c i 584 (4 * σ.I 555 30 + 0) then x2 else if at2 c i 584 (4 * σ.I 555 30 + 1) then x3 else if at2 c i 584 (4 * σ.I 555 30 + 2) then x4 else if at2 c i 584 (4 * σ.I 555 30 + 3) then x5 else σ.I c i) else σ.I c i)))) := by sorry
theorem sp_X9_truncate {E : XE} {d : Nat} {σ : Sto} {x1 : Int} (hd : 1 ≤ d) (hL : Lay σ)  (p0 : 0 ≤ x1 ∧ x1 ≤ σ.I 555 30) (p1 : σ.I 555 30 ≤ 6000) : CC E mX9_truncate d [aO 555, aI (x1)] σ (RV (fun τ => RD σ τ (fun c i => if x1 < σ.I 555 30 ∧ at2 c i 555 38 then σ.I 580 x1 else if x1 < σ.I 555 30 ∧ at2 c i 555 44 then σ.I 582 x1 else if x1 < σ.I 555 30 ∧ at2 c i 555 30 then x1 else if x1 < σ.I 555 30 ∧ at2 c i 582 x1 then σ.I 582 x1 else if ¬ x1 < σ.I 555 30 ∧ at2 c i 582 (σ.I 555 30) then σ.I 555 44 else σ.I c i))) := by sorry
theorem sp_X9_discard {E : XE} {d : Nat} {σ : Sto}  (hd : 2 ≤ d) (hL : Lay σ)  (p0 : 0 ≤ σ.I 555 45 ∧ σ.I 555 45 ≤ σ.I 555 30) (p1 : σ.I 555 30 ≤ 6000) : CC E mX9_discard d [aO 555] σ (RVI (fun y τ => (y = σ.I 555 30 - σ.I 555 45) ∧ (RD σ τ (fun c i => if σ.I 555 45 < σ.I 555 30 ∧ at2 c i 555 38 then σ.I 580 (σ.I 555 45) else if σ.I 555 45 < σ.I 555 30 ∧ at2 c i 555 44 then σ.I 582 (σ.I 555 45) else if σ.I 555 45 < σ.I 555 30 ∧ at2 c i 555 30 then σ.I 555 45 else if ¬ σ.I 555 45 < σ.I 555 30 ∧ at2 c i 582 (σ.I 555 30) then σ.I 555 44 else σ.I c i)))) := by sorry
theorem sp_X9_layTerm {E : XE} {d : Nat} {σ : Sto} {o1 : Nat} {n1 : Nat} {x2 : Int} {x3 : Int} {x4 : Int} {x5 : Int} {x6 : Int} (hd : 1 ≤ d) (hL : Lay σ) (ho1 : σ.sh o1 = (1, n1)) (p0 : 0 ≤ σ.I 555 44 ∧ σ.I 555 44 < 24000) (p1 : 0 ≤ x3 ∧ x3 ≤ 20) (p2 : 0 ≤ x2 ∧ x2 + x3 ≤ n1) (p3 : inR x4) (p4 : inR x5) (p5 : inR x6) (p6 : o1 ≠ 586 ∧ o1 ≠ 587) : CC E mX9_layTerm d [aO 555, aO o1, aI (x2), aI (x3), aI (x4), aI (x5), aI (x6)] σ (RV (fun τ => RD σ τ (fun c i => if at2 c i 587 (σ.I 555 44) then x3 else if rg c i 586 (20 * σ.I 555 44) (20 * σ.I 555 44 + x3) then σ.I o1 (x2 + (i - 20 * σ.I 555 44)) else if at2 c i 588 (σ.I 555 44) then x4 else if at2 c i 589 (σ.I 555 44) then x5 else if at2 c i 590 (σ.I 555 44) then x6 else if at2 c i 555 44 then σ.I 555 44 + 1 else σ.I c i))) := by sorry
theorem sp_X9_layObject {E : XE} {d : Nat} {σ : Sto} {x1 : Int} {x2 : Int} {x3 : Int} (hd : 1 ≤ d) (hL : Lay σ)  (p0 : 0 ≤ x1 ∧ x1 ≤ 600) (p1 : inR x2) (p2 : inR x3) (p3 : 0 ≤ σ.I 555 45 ∧ σ.I 555 45 ≤ σ.I 555 30) (p4 : σ.I 555 30 ≤ 6000) : CC E mX9_layObject d [aO 555, aI (x1), aI (x2), aI (x3)] σ (RV (fun τ => RD σ τ (fun c i => if at2 c i 591 x1 then x2 else if at2 c i 592 x1 then x3 else if at2 c i 593 x1 then 2147483647 else if at2 c i 594 x1 then 1 else if at2 c i 595 x1 then σ.I 555 45 else if at2 c i 596 x1 then σ.I 555 30 - σ.I 555 45 else if at2 c i 555 45 then σ.I 555 30 else σ.I c i))) := by sorry
/-- the parents of those that are held; they come before, and are held -/
def pH (σ : Sto) (k : Int) : Int := if σ.I 594 k = 1 then σ.I 591 k else -1
def trH (σ : Sto) (n : Int) : Prop := ∀ k, 0 ≤ k → k < n → -1 ≤ pH σ k ∧ pH σ k < k ∧ (0 ≤ pH σ k → σ.I 594 (pH σ k) = 1)
theorem pH_h {σ : Sto} {k : Int} (h : σ.I 594 k = 1) : pH σ k = σ.I 591 k := if_pos h
theorem pH_eq {σ τ : Sto} (h : τ.I 594 = σ.I 594) (g : τ.I 591 = σ.I 591) : pH τ = pH σ := by funext k; unfold pH; rw [h, g]
theorem trH_eq {σ τ : Sto} {n : Int} (h : trH σ n) (h1 : τ.I 594 = σ.I 594) (g : τ.I 591 = σ.I 591) : trH τ n := by unfold trH; rw [pH_eq h1 g, h1]; exact h
theorem trH_at {σ : Sto} {n k : Int} (h : trH σ n) (h0 : 0 ≤ k) (h1 : k < n) (hh : σ.I 594 k = 1) : σ.I 591 k = -1 ∨ (-1 < σ.I 591 k ∧ σ.I 591 k < k ∧ σ.I 594 (σ.I 591 k) = 1) := by
  have q := h k h0 h1
  rw [pH_h hh] at q
  rcases (show σ.I 591 k = -1 ∨ 0 ≤ σ.I 591 k by omega) with z | z
  · exact Or.inl z
  · exact Or.inr ⟨by omega, q.2.1, q.2.2 z⟩
theorem trH_dp {σ : Sto} {n : Int} (h : trH σ n) (o : Int) (h0 : 0 ≤ o) (h1 : o < n) (hh : σ.I 594 o = 1) : dp (pH σ) o = 1 + dp (pH σ) (σ.I 591 o) := by
  have q := dp_s (P := pH σ) (n := n) (fun k q1 q2 => (h k q1 q2).2.1) o h0 h1
  rw [pH_h hh] at q; exact q
theorem trH_in {σ : Sto} {n : Int} (h : trH σ n) (o : Int) (h1 : o < n) : dp (pH σ) o = 0 ∨ (0 < dp (pH σ) o ∧ dp (pH σ) o ≤ o + 1) := dp_in (fun k q1 q2 => (h k q1 q2).2.1) o h1
theorem sp_X9_depth {E : XE} {d : Nat} {σ : Sto} {x1 : Int} (hd : 1 ≤ d) (hL : Lay σ)  (p0 : 0 ≤ σ.I 555 52 ∧ σ.I 555 52 ≤ 600) (p1 : trH σ (σ.I 555 52)) (p2 : -1 ≤ x1 ∧ x1 < σ.I 555 52) (p3 : 0 ≤ x1 → σ.I 594 x1 = 1) : CC E mX9_depth d [aO 555, aI (x1)] σ (RI σ (dp (pH σ) x1)) := by sorry
theorem sp_X9_add {E : XE} {d : Nat} {σ : Sto} {x1 : Int} (hd : 2 ≤ d) (hL : Lay σ)  (p0 : 0 ≤ σ.I 555 52 ∧ σ.I 555 52 ≤ 600) (p1 : trH σ (σ.I 555 52)) (p2 : inR x1) (p3 : 0 ≤ σ.I 555 45 ∧ σ.I 555 45 ≤ σ.I 555 30) (p4 : σ.I 555 30 ≤ 6000) (p5 : 0 ≤ σ.I 555 54 ∧ σ.I 555 54 ≤ 1000000) : CC E mX9_add d [aO 555, aI (x1)] σ (RVI (fun y τ => (y = if ¬ (x1 = -1 ∨ (0 ≤ x1 ∧ x1 < σ.I 555 52 ∧ σ.I 594 x1 = 1 ∧ σ.I 593 x1 = 2147483647)) then -1 else if (σ.I 555 52 = 600 ∨ 10 ≤ dp (pH σ) x1) then -3 else σ.I 555 52) ∧ (RD σ τ (fun c i => if ((x1 = -1 ∨ (0 ≤ x1 ∧ x1 < σ.I 555 52 ∧ σ.I 594 x1 = 1 ∧ σ.I 593 x1 = 2147483647)) ∧ ¬ (σ.I 555 52 = 600 ∨ 10 ≤ dp (pH σ) x1)) then (if at2 c i 591 (σ.I 555 52) then x1 else if at2 c i 592 (σ.I 555 52) then σ.I 555 54 + 1 else if at2 c i 593 (σ.I 555 52) then 2147483647 else if at2 c i 594 (σ.I 555 52) then 1 else if at2 c i 595 (σ.I 555 52) then σ.I 555 45 else if at2 c i 596 (σ.I 555 52) then σ.I 555 30 - σ.I 555 45 else if at2 c i 555 45 then σ.I 555 30 else if at2 c i 555 52 then σ.I 555 52 + 1 else σ.I c i) else σ.I c i)))) := by sorry
theorem sp_X0_mayCome {E : XE} {d : Nat} {σ : Sto} {x1 : Int} {x2 : Int} (hd : 1 ≤ d) (hL : Lay σ)  (p0 : 0 ≤ σ.I 0 31 ∧ σ.I 0 31 ≤ σ.I 0 20) (p1 : σ.I 0 20 ≤ 6000 ∧ σ.I 0 20 ≤ σ.I 0 31 + 24) (p2 : 0 ≤ σ.I 0 22 ∧ σ.I 0 22 ≤ 60000) (p3 : 0 ≤ σ.I 0 29 ∧ 0 ≤ σ.I 0 30) (p4 : σ.I 0 29 + σ.I 0 30 ≤ 24000) (p5 : 0 ≤ x1 ∧ x1 ≤ 100000) (p6 : 0 ≤ x2 ∧ x2 ≤ 100000) : CC E mX0_mayCome d [aO 0, aI (x1), aI (x2)] σ (RZ σ (σ.I 0 20 - σ.I 0 31 < 24 ∧ σ.I 0 20 < 6000 ∧ σ.I 0 22 + x1 ≤ 60000 ∧ σ.I 0 29 + σ.I 0 30 + x2 ≤ 24000)) := by sorry
theorem sp_X0_came {E : XE} {d : Nat} {σ : Sto} {x1 : Int} (hd : 1 ≤ d) (hL : Lay σ)  (p0 : 0 ≤ σ.I 0 20 ∧ σ.I 0 20 < 6000) (p1 : 0 ≤ σ.I 0 31 ∧ σ.I 0 31 ≤ σ.I 0 20) (p2 : 0 ≤ x1 ∧ x1 ≤ 12) : CC E mX0_came d [aO 0, aI (x1)] σ (RVI (fun y τ => (y = σ.I 0 20 + 1 - σ.I 0 31) ∧ (RD σ τ (fun c i => if at2 c i 26 (σ.I 0 20) then x1 else if at2 c i 0 20 then σ.I 0 20 + 1 else σ.I c i)))) := by sorry
theorem sp_X0_plain {E : XE} {d : Nat} {σ : Sto} {x1 : Int} {y2 : Int} (hd : 2 ≤ d) (hL : Lay σ)  (p0 : 0 ≤ σ.I 0 31 ∧ σ.I 0 31 ≤ σ.I 0 20) (p1 : σ.I 0 20 ≤ 6000 ∧ σ.I 0 20 ≤ σ.I 0 31 + 24) (p2 : 0 ≤ σ.I 0 22 ∧ σ.I 0 22 ≤ 60000) (p3 : 0 ≤ σ.I 0 29 ∧ 0 ≤ σ.I 0 30) (p4 : σ.I 0 29 + σ.I 0 30 ≤ 24000) (p5 : 0 ≤ x1 ∧ x1 ≤ 12) (p6 : inL y2) : CC E mX0_plain d [aO 0, aI (x1), aL (y2)] σ (RVI (fun y τ => (y = if (σ.I 0 20 - σ.I 0 31 = 24 ∨ σ.I 0 20 = 6000) then -3 else σ.I 0 20 + 1 - σ.I 0 31) ∧ (RD σ τ (fun c i => if (¬ (σ.I 0 20 - σ.I 0 31 = 24 ∨ σ.I 0 20 = 6000)) then (if at2 c i 26 (σ.I 0 20) then x1 else if at2 c i 30 (σ.I 0 20) then y2 else if at2 c i 28 (σ.I 0 20) then σ.I 0 22 else if at2 c i 29 (σ.I 0 20) then 0 else if at2 c i 31 (σ.I 0 20) then σ.I 0 29 else if at2 c i 32 (σ.I 0 20) then 0 else if at2 c i 0 20 then σ.I 0 20 + 1 else σ.I c i) else σ.I c i)))) := by sorry
theorem sp_X0_number {E : XE} {d : Nat} {σ : Sto} {x1 : Int} {y2 : Int} (hd : 4 ≤ d) (hL : Lay σ)  (p0 : 0 ≤ σ.I 0 31 ∧ σ.I 0 31 ≤ σ.I 0 20) (p1 : σ.I 0 20 ≤ 6000 ∧ σ.I 0 20 ≤ σ.I 0 31 + 24) (p2 : 0 ≤ σ.I 0 22 ∧ σ.I 0 22 ≤ 60000) (p3 : 0 ≤ σ.I 0 29 ∧ 0 ≤ σ.I 0 30) (p4 : σ.I 0 29 + σ.I 0 30 ≤ 24000) (p5 : 0 ≤ σ.I 0 9 ∧ σ.I 0 9 ≤ 12) (p6 : inR x1) (p7 : inL y2) : CC E mX0_number d [aO 0, aI (x1), aL (y2)] σ (RVI (fun y τ => (y = if ¬ (0 ≤ x1 ∧ x1 < σ.I 0 9 ∧ σ.I 16 x1 = 2) then -1 else if (σ.I 0 20 - σ.I 0 31 = 24 ∨ σ.I 0 20 = 6000) then -3 else σ.I 0 20 + 1 - σ.I 0 31) ∧ (RD σ τ (fun c i => if ((0 ≤ x1 ∧ x1 < σ.I 0 9 ∧ σ.I 16 x1 = 2) ∧ ¬ (σ.I 0 20 - σ.I 0 31 = 24 ∨ σ.I 0 20 = 6000)) then (if at2 c i 26 (σ.I 0 20) then x1 else if at2 c i 30 (σ.I 0 20) then y2 else if at2 c i 28 (σ.I 0 20) then σ.I 0 22 else if at2 c i 29 (σ.I 0 20) then 0 else if at2 c i 31 (σ.I 0 20) then σ.I 0 29 else if at2 c i 32 (σ.I 0 20) then 0 else if at2 c i 0 20 then σ.I 0 20 + 1 else σ.I c i) else σ.I c i)))) := by sorry
theorem sp_X0_place {E : XE} {d : Nat} {σ : Sto} {x1 : Int} {x2 : Int} {x3 : Int} (hd : 4 ≤ d) (hL : Lay σ)  (p0 : 0 ≤ σ.I 0 31 ∧ σ.I 0 31 ≤ σ.I 0 20) (p1 : σ.I 0 20 ≤ 6000 ∧ σ.I 0 20 ≤ σ.I 0 31 + 24) (p2 : 0 ≤ σ.I 0 22 ∧ σ.I 0 22 ≤ 60000) (p3 : 0 ≤ σ.I 0 29 ∧ 0 ≤ σ.I 0 30) (p4 : σ.I 0 29 + σ.I 0 30 ≤ 24000) (p5 : 0 ≤ σ.I 0 9 ∧ σ.I 0 9 ≤ 12) (p6 : inR x1) (p7 : inR x2) (p8 : inR x3) : CC E mX0_place d [aO 0, aI (x1), aI (x2), aI (x3)] σ (RVI (fun y τ => (y = if ¬ ((0 ≤ x1 ∧ x1 < σ.I 0 9 ∧ σ.I 16 x1 = 3) ∧ (-1000000 ≤ x2 ∧ x2 ≤ 1000000) ∧ (-1000000 ≤ x3 ∧ x3 ≤ 1000000)) then -1 else if (σ.I 0 20 - σ.I 0 31 = 24 ∨ σ.I 0 20 = 6000) then -3 else σ.I 0 20 + 1 - σ.I 0 31) ∧ (RD σ τ (fun c i => if (((0 ≤ x1 ∧ x1 < σ.I 0 9 ∧ σ.I 16 x1 = 3) ∧ (-1000000 ≤ x2 ∧ x2 ≤ 1000000) ∧ (-1000000 ≤ x3 ∧ x3 ≤ 1000000)) ∧ ¬ (σ.I 0 20 - σ.I 0 31 = 24 ∨ σ.I 0 20 = 6000)) then (if at2 c i 26 (σ.I 0 20) then x1 else if at2 c i 30 (σ.I 0 20) then pk2 x2 x3 else if at2 c i 28 (σ.I 0 20) then σ.I 0 22 else if at2 c i 29 (σ.I 0 20) then 0 else if at2 c i 31 (σ.I 0 20) then σ.I 0 29 else if at2 c i 32 (σ.I 0 20) then 0 else if at2 c i 0 20 then σ.I 0 20 + 1 else σ.I c i) else σ.I c i)))) := by sorry
theorem sp_X0_packed {E : XE} {d : Nat} {σ : Sto} {x0 : Int} {x1 : Int} {x2 : Int} {x3 : Int} (hd : 1 ≤ d) (hL : Lay σ)  (p0 : inR x0) (p1 : inR x1) (p2 : inR x2) (p3 : inR x3) : CC E mX0_packed d [aI (x0), aI (x1), aI (x2), aI (x3)] σ (RL σ (pk4 x0 x1 x2 x3)) := by sorry
theorem sp_X0_row {E : XE} {d : Nat} {σ : Sto} {x1 : Int} {x2 : Int} {x3 : Int} {x4 : Int} {x5 : Int} (hd : 4 ≤ d) (hL : Lay σ)  (p0 : 0 ≤ σ.I 0 31 ∧ σ.I 0 31 ≤ σ.I 0 20) (p1 : σ.I 0 20 ≤ 6000 ∧ σ.I 0 20 ≤ σ.I 0 31 + 24) (p2 : 0 ≤ σ.I 0 22 ∧ σ.I 0 22 ≤ 60000) (p3 : 0 ≤ σ.I 0 29 ∧ 0 ≤ σ.I 0 30) (p4 : σ.I 0 29 + σ.I 0 30 ≤ 24000) (p5 : 0 ≤ σ.I 0 9 ∧ σ.I 0 9 ≤ 12) (p6 : inR x1) (p7 : inR x2) (p8 : inR x3) (p9 : inR x4) (p10 : inR x5) : CC E mX0_row d [aO 0, aI (x1), aI (x2), aI (x3), aI (x4), aI (x5)] σ (RVI (fun y τ => (y = if ¬ ((0 ≤ x1 ∧ x1 < σ.I 0 9 ∧ σ.I 16 x1 = 4) ∧ (-1000 ≤ x2 ∧ x2 ≤ 1000) ∧ (-1000 ≤ x3 ∧ x3 ≤ 1000) ∧ (-1000 ≤ x4 ∧ x4 ≤ 1000) ∧ (-1000 ≤ x5 ∧ x5 ≤ 1000)) then -1 else if (σ.I 0 20 - σ.I 0 31 = 24 ∨ σ.I 0 20 = 6000) then -3 else σ.I 0 20 + 1 - σ.I 0 31) ∧ (RD σ τ (fun c i => if (((0 ≤ x1 ∧ x1 < σ.I 0 9 ∧ σ.I 16 x1 = 4) ∧ (-1000 ≤ x2 ∧ x2 ≤ 1000) ∧ (-1000 ≤ x3 ∧ x3 ≤ 1000) ∧ (-1000 ≤ x4 ∧ x4 ≤ 1000) ∧ (-1000 ≤ x5 ∧ x5 ≤ 1000)) ∧ ¬ (σ.I 0 20 - σ.I 0 31 = 24 ∨ σ.I 0 20 = 6000)) then (if at2 c i 26 (σ.I 0 20) then x1 else if at2 c i 30 (σ.I 0 20) then pk4 x2 x3 x4 x5 else if at2 c i 28 (σ.I 0 20) then σ.I 0 22 else if at2 c i 29 (σ.I 0 20) then 0 else if at2 c i 31 (σ.I 0 20) then σ.I 0 29 else if at2 c i 32 (σ.I 0 20) then 0 else if at2 c i 0 20 then σ.I 0 20 + 1 else σ.I c i) else σ.I c i)))) := by sorry
end
section
/-! contracts: printed by tools/mk.py out of s25_words.py -/
set_option maxRecDepth 100000
set_option maxHeartbeats 1500000
def plV (b : Int) : Prop := b = 97 ∨ b = 101 ∨ b = 105 ∨ b = 111 ∨ b = 117
def vwN (w : Int → Int) : Nat → Prop
  | 0 => plV (w 0)
  | k + 1 => plV (w (k + 1 : Nat)) ∨ (w (k + 1 : Nat) = 121 ∧ ¬ vwN w k)
/-- the byte at k is a vowel -/
def vw (w : Int → Int) (k : Int) : Prop := vwN w k.toNat
theorem vw_0 (w : Int → Int) (k : Int) (h : k = 0) : vw w k ↔ plV (w k) := by subst h; exact Iff.rfl
theorem vw_s (w : Int → Int) (k m : Int) (h : 0 ≤ k) (hm : m = k + 1) : vw w m ↔ (plV (w m) ∨ (w m = 121 ∧ ¬ vw w k)) := by
  have e : m.toNat = k.toNat + 1 := by omega
  have e2 : ((k.toNat + 1 : Nat) : Int) = m := by omega
  unfold vw
  rw [e]
  show (plV (w (k.toNat + 1 : Nat)) ∨ (w (k.toNat + 1 : Nat) = 121 ∧ ¬ vwN w k.toNat)) ↔ _
  rw [e2]
/-- the measure of the first n bytes -/
noncomputable def mea (w : Int → Int) (n : Int) : Int := cn (fun k => vw w k ∧ ¬ vw w (k + 1)) (n - 1)
theorem vw_p (w : Int → Int) (k : Int) (h : 0 ≤ k) (hp : plV (w k)) : vw w k := by
  by_cases e : k = 0
  · exact (vw_0 w k e).mpr hp
  · exact (vw_s w (k - 1) k (by omega) (by omega)).mpr (Or.inl hp)
theorem vw_n (w : Int → Int) (k : Int) (h : 0 ≤ k) (hp : ¬ plV (w k)) (hy : w k ≠ 121) : ¬ vw w k := by
  by_cases e : k = 0
  · exact fun q => hp ((vw_0 w k e).mp q)
  · intro q
    rcases (vw_s w (k - 1) k (by omega) (by omega)).mp q with q | q
    · exact hp q
    · exact hy q.1
theorem alN_m (p : Int → Prop) (k n : Int) (h : alN p n) (hk : k ≤ n) : alN p k := fun j h1 h2 => h j h1 (by omega)
theorem exN_m (p : Int → Prop) (k n : Int) (h : exN p k) (hk : k ≤ n) : exN p n := by
  obtain ⟨j, h1, h2, h3⟩ := h
  exact ⟨j, h1, by omega, h3⟩
/-- for one from i on below n -/
def exF (p : Int → Prop) (i n : Int) : Prop := ∃ j, i ≤ j ∧ j < n ∧ p j
theorem exF_0 (p : Int → Prop) (i n : Int) (h : i = 0) : exF p i n ↔ exN p n := by subst h; exact Iff.rfl
theorem exF_e (p : Int → Prop) (i n : Int) (h : n ≤ i) : ¬ exF p i n := fun ⟨j, h1, h2, _⟩ => by omega
theorem exF_i (p : Int → Prop) (i n : Int) (h : i < n) (hp : p i) : exF p i n := ⟨i, Int.le_refl _, h, hp⟩
theorem exF_s (p : Int → Prop) (i m n : Int) (h : i < n) (hm : m = i + 1) : exF p i n ↔ (p i ∨ exF p m n) := by
  constructor
  · rintro ⟨j, h1, h2, h3⟩
    by_cases e : j = i
    · subst e; exact Or.inl h3
    · exact Or.inr ⟨j, by omega, h2, h3⟩
  · rintro (q | ⟨j, h1, h2, h3⟩)
    · exact ⟨i, Int.le_refl _, h, q⟩
    · exact ⟨j, by omega, h2, h3⟩
/-- rows of bytes are the same -/
def eqA (A B : Int → Int) (i j n : Int) : Prop := alN (fun k => A (i + k) = B (j + k)) n
def letA (A : Int → Int) (i n : Int) : Prop := alN (fun k => isLet (A (i + k) % 256)) n
theorem sp_X0_areLetters {E : XE} {d : Nat} {σ : Sto} {x1 : Int} {x2 : Int} (hd : 3 ≤ d) (hL : Lay σ)  (p0 : 0 ≤ x1 ∧ x1 ≤ 30001) (p1 : 0 ≤ x2 ∧ x2 ≤ 30000) : CC E mX0_areLetters d [aO 0, aI (x1), aI (x2)] σ (RZ σ ((1 ≤ x2 - x1 ∧ x2 - x1 ≤ 20) ∧ letA (σ.I 1) x1 (x2 - x1))) := by sorry
theorem sp_X9_areLetters {E : XE} {d : Nat} {σ : Sto} {o0 : Nat} {n0 : Nat} {x1 : Int} {x2 : Int} (hd : 2 ≤ d) (hL : Lay σ) (ho0 : σ.sh o0 = (1, n0)) (p0 : 0 ≤ x1 ∧ x1 ≤ 30001) (p1 : 0 ≤ x2 ∧ x2 ≤ n0 ∧ x2 ≤ 30000) : CC E mX9_areLetters d [aO o0, aI (x1), aI (x2)] σ (RZ σ ((1 ≤ x2 - x1 ∧ x2 - x1 ≤ 20) ∧ letA (σ.I o0) x1 (x2 - x1))) := by sorry
theorem sp_X9_stopAt {E : XE} {d : Nat} {σ : Sto} {x0 : Int} {x1 : Int} (hd : 1 ≤ d) (hL : Lay σ)  (p0 : 0 ≤ x0 ∧ x0 ≤ 6) (p1 : 0 ≤ x1 ∧ x1 ≤ 100) : CC E mX9_stopAt d [aI (x0), aI (x1)] σ (RI σ (60 * x0 + x1)) := by sorry
theorem sp_X9_synonymAt {E : XE} {d : Nat} {σ : Sto} {x0 : Int} {x1 : Int} (hd : 1 ≤ d) (hL : Lay σ)  (p0 : 0 ≤ x0 ∧ x0 ≤ 6) (p1 : 0 ≤ x1 ∧ x1 ≤ 100) : CC E mX9_synonymAt d [aI (x0), aI (x1)] σ (RI σ (60 * x0 + 20 + 2 * x1)) := by sorry
theorem sp_X9_tell {E : XE} {d : Nat} {σ : Sto} {x1 : Int} {o2 : Nat} {n2 : Nat} {x3 : Int} {x4 : Int} (hd : 1 ≤ d) (hL : Lay σ) (ho2 : σ.sh o2 = (1, n2)) (p0 : 0 ≤ x1 ∧ x1 < 360) (p1 : 0 ≤ x3 ∧ x3 ≤ x4 ∧ x4 ≤ x3 + 20) (p2 : x4 ≤ n2 ∧ x4 ≤ 30000) (p3 : o2 ≠ 563 ∧ o2 ≠ 564) : CC E mX9_tell d [aO 555, aI (x1), aO o2, aI (x3), aI (x4)] σ (RV (fun τ => RD σ τ (fun c i => if at2 c i 564 x1 then x4 - x3 else if rg c i 563 (20 * x1) (20 * x1 + (x4 - x3)) then σ.I o2 (x3 + (i - 20 * x1)) else σ.I c i))) := by sorry
theorem sp_X9_isTold {E : XE} {d : Nat} {σ : Sto} {x1 : Int} {o2 : Nat} {n2 : Nat} {x3 : Int} {x4 : Int} (hd : 1 ≤ d) (hL : Lay σ) (ho2 : σ.sh o2 = (1, n2)) (p0 : 0 ≤ x1 ∧ x1 < 360) (p1 : 0 ≤ x3 ∧ x3 ≤ x4) (p2 : x4 ≤ n2 ∧ x4 ≤ 31000) (p3 : 0 ≤ σ.I 564 x1 ∧ σ.I 564 x1 ≤ 20) : CC E mX9_isTold d [aO 555, aI (x1), aO o2, aI (x3), aI (x4)] σ (RZ σ (σ.I 564 x1 = x4 - x3 ∧ eqA (σ.I 563) (σ.I o2) (20 * x1) x3 (x4 - x3))) := by sorry
theorem sp_X9_findStop {E : XE} {d : Nat} {σ : Sto} {x1 : Int} {o2 : Nat} {n2 : Nat} {x3 : Int} {x4 : Int} (hd : 2 ≤ d) (hL : Lay σ) (ho2 : σ.sh o2 = (1, n2)) (p0 : 0 ≤ x1 ∧ x1 < 6) (p1 : 0 ≤ x3 ∧ x3 ≤ x4) (p2 : x4 ≤ n2 ∧ x4 ≤ 31000) (p3 : bd_0_20 σ 564 360) (p4 : 0 ≤ σ.I 561 x1 ∧ σ.I 561 x1 ≤ 20) : CC E mX9_findStop d [aO 555, aI (x1), aO o2, aI (x3), aI (x4)] σ (RVI (fun y τ => (τ = σ) ∧ (0 ≤ y ↔ exN (fun k => σ.I 564 (60 * x1 + k) = x4 - x3 ∧ eqA (σ.I 563) (σ.I o2) (20 * (60 * x1 + k)) x3 (x4 - x3)) (σ.I 561 x1)) ∧ (-1 ≤ y ∧ y < 20))) := by sorry
theorem sp_X9_isSameRow {E : XE} {d : Nat} {σ : Sto} {o0 : Nat} {n0 : Nat} {x1 : Int} {x2 : Int} {o3 : Nat} {n3 : Nat} {x4 : Int} {x5 : Int} (hd : 1 ≤ d) (hL : Lay σ) (ho0 : σ.sh o0 = (1, n0)) (ho3 : σ.sh o3 = (1, n3)) (p0 : 0 ≤ x1 ∧ 0 ≤ x4) (p1 : inR x2) (p2 : inR x5) (p3 : x1 + x2 ≤ n0 ∧ x4 + x5 ≤ n3) (p4 : (n0 : Int) ≤ 1000000 ∧ (n3 : Int) ≤ 1000000) : CC E mX9_isSameRow d [aO o0, aI (x1), aI (x2), aO o3, aI (x4), aI (x5)] σ (RZ σ (x2 = x5 ∧ eqA (σ.I o0) (σ.I o3) x1 x4 x2)) := by sorry
theorem sp_X9_folded {E : XE} {d : Nat} {σ : Sto} {x0 : Int} (hd : 1 ≤ d) (hL : Lay σ)  (p0 : inR x0) : CC E mX9_folded d [aI (x0)] σ (RI σ (if 65 ≤ x0 ∧ x0 ≤ 90 then x0 + 32 else x0)) := by sorry
theorem sp_X10_folded {E : XE} {d : Nat} {σ : Sto} {o0 : Nat} {x1 : Int} (hd : 1 ≤ d) (hL : Lay σ) (ho0 : At10 σ o0) (p0 : inR x1) : CC E mX10_folded d [aO o0, aI (x1)] σ (RI σ (if σ.I o0 0 = 1 ∧ 65 ≤ x1 ∧ x1 ≤ 90 then x1 + 32 else x1)) := by sorry
theorem sp_X9_seeVowels {E : XE} {d : Nat} {σ : Sto}  (hd : 1 ≤ d) (hL : Lay σ)  (p0 : 0 ≤ σ.I 555 12 ∧ σ.I 555 12 ≤ 30064) : CC E mX9_seeVowels d [aO 555] σ (RV (fun τ => RD σ τ (fun c i => if rg c i 566 0 (σ.I 555 12) then zb (vw (σ.I 565) i) else σ.I c i))) := by sorry
theorem sp_X9_measure {E : XE} {d : Nat} {σ : Sto} {x1 : Int} (hd : 2 ≤ d) (hL : Lay σ)  (p0 : 0 ≤ σ.I 555 12 ∧ σ.I 555 12 ≤ 30064) (p1 : inR x1) (p2 : -10 ≤ x1 ∧ x1 ≤ σ.I 555 12) : CC E mX9_measure d [aO 555, aI (x1)] σ (RVI (fun y τ => (y = mea (σ.I 565) x1) ∧ (RD σ τ (fun c i => if rg c i 566 0 (σ.I 555 12) then zb (vw (σ.I 565) i) else σ.I c i)))) := by sorry
theorem sp_X9_hasVowel {E : XE} {d : Nat} {σ : Sto} {x1 : Int} (hd : 2 ≤ d) (hL : Lay σ)  (p0 : 0 ≤ σ.I 555 12 ∧ σ.I 555 12 ≤ 30064) (p1 : inR x1) (p2 : -10 ≤ x1 ∧ x1 ≤ σ.I 555 12) : CC E mX9_hasVowel d [aO 555, aI (x1)] σ (RVZ (fun y τ => (y = 1 ↔ exN (vw (σ.I 565)) x1) ∧ (RD σ τ (fun c i => if rg c i 566 0 (σ.I 555 12) then zb (vw (σ.I 565) i) else σ.I c i)))) := by sorry
theorem sp_X9_isSmall {E : XE} {d : Nat} {σ : Sto}  (hd : 1 ≤ d) (hL : Lay σ)  (p0 : 0 ≤ σ.I 555 12 ∧ σ.I 555 12 ≤ 30064) : CC E mX9_isSmall d [aO 555] σ (RZ σ (alN (fun k => 97 ≤ σ.I 565 k ∧ σ.I 565 k ≤ 122) (σ.I 555 12))) := by sorry
theorem sp_X10_isPlainVowel {E : XE} {d : Nat} {σ : Sto} {x0 : Int} (hd : 1 ≤ d) (hL : Lay σ)  (p0 : inR x0) : CC E mX10_isPlainVowel d [aI (x0)] σ (RZ σ (plV x0)) := by sorry
theorem sp_X10_isVowelBehind {E : XE} {d : Nat} {σ : Sto} {o0 : Nat} {x1 : Int} {x2 : Int} (hd : 2 ≤ d) (hL : Lay σ) (ho0 : At10 σ o0) (p0 : 0 ≤ x1 ∧ x1 < 30000) (p1 : 0 ≤ x2 ∧ x2 ≤ 1) : CC E mX10_isVowelBehind d [aO o0, aI (x1), aI (x2)] σ (RZ σ ((σ.I 2 x1 = 121 ∧ 0 < x1 ∧ x2 = 0) ∨ (σ.I 2 x1 ≠ 121 ∧ plV (σ.I 2 x1)))) := by sorry
theorem sp_X10_hasVowel {E : XE} {d : Nat} {σ : Sto} {o0 : Nat} {x1 : Int} (hd : 3 ≤ d) (hL : Lay σ) (ho0 : At10 σ o0) (p0 : inR x1) (p1 : x1 ≤ 30000) : CC E mX10_hasVowel d [aO o0, aI (x1)] σ (RZ σ (exN (vw (σ.I 2)) x1)) := by sorry
theorem sp_X10_measure {E : XE} {d : Nat} {σ : Sto} {o0 : Nat} {x1 : Int} (hd : 3 ≤ d) (hL : Lay σ) (ho0 : At10 σ o0) (p0 : inR x1) (p1 : -10 ≤ x1 ∧ x1 ≤ 30000) : CC E mX10_measure d [aO o0, aI (x1)] σ (RI σ (mea (σ.I 2) x1)) := by sorry
theorem sp_X10_withE {E : XE} {d : Nat} {σ : Sto} {o0 : Nat} {x1 : Int} (hd : 1 ≤ d) (hL : Lay σ) (ho0 : At10 σ o0) (p0 : 0 ≤ x1 ∧ x1 < 30000) : CC E mX10_withE d [aO o0, aI (x1)] σ (RVI (fun y τ => (y = x1 + 1) ∧ (RD σ τ (fun c i => if at2 c i 2 x1 then 101 else σ.I c i)))) := by sorry
theorem sp_X10_isVowel {E : XE} {d : Nat} {σ : Sto} {o0 : Nat} {x1 : Int} (hd : 2 ≤ d) (hL : Lay σ) (ho0 : At10 σ o0) (p0 : 0 ≤ x1 ∧ x1 < 30000) : CC E mX10_isVowel d [aO o0, aI (x1)] σ (RZ σ (vw (σ.I 2) x1)) := by sorry
end
section
/-! contracts: printed by tools/mk.py out of s26_tell.py -/
set_option maxRecDepth 100000
set_option maxHeartbeats 1500000
theorem sp_X0_hit {E : XE} {d : Nat} {σ : Sto} {x1 : Int} (hd : 3 ≤ d) (hL : Lay σ)  (p0 : inR x1) (p1 : 0 ≤ σ.I 0 70 ∧ σ.I 0 70 ≤ 600) : CC E mX0_hit d [aO 0, aI (x1)] σ (RI σ (if (0 ≤ x1 ∧ x1 < σ.I 0 70) then σ.I 189 x1 else -1)) := by sorry
theorem sp_X9_hit {E : XE} {d : Nat} {σ : Sto} {x1 : Int} (hd : 2 ≤ d) (hL : Lay σ)  (p0 : inR x1) (p1 : 0 ≤ σ.I 555 115 ∧ σ.I 555 115 ≤ 600) : CC E mX9_hit d [aO 555, aI (x1)] σ (RI σ (if (0 ≤ x1 ∧ x1 < σ.I 555 115) then σ.I 637 x1 else -1)) := by sorry
theorem sp_X0_score {E : XE} {d : Nat} {σ : Sto} {x1 : Int} (hd : 3 ≤ d) (hL : Lay σ)  (p0 : inR x1) (p1 : 0 ≤ σ.I 0 70 ∧ σ.I 0 70 ≤ 600) : CC E mX0_score d [aO 0, aI (x1)] σ (RL σ (if (0 ≤ x1 ∧ x1 < σ.I 0 70) then σ.I 190 x1 else -1)) := by sorry
theorem sp_X9_score {E : XE} {d : Nat} {σ : Sto} {x1 : Int} (hd : 2 ≤ d) (hL : Lay σ)  (p0 : inR x1) (p1 : 0 ≤ σ.I 555 115 ∧ σ.I 555 115 ≤ 600) : CC E mX9_score d [aO 555, aI (x1)] σ (RL σ (if (0 ≤ x1 ∧ x1 < σ.I 555 115) then σ.I 638 x1 else -1)) := by sorry
theorem sp_X0_line {E : XE} {d : Nat} {σ : Sto} {x1 : Int} {x2 : Int} (hd : 2 ≤ d) (hL : Lay σ)  (p0 : inR x1) (p1 : inR x2) (p2 : 0 ≤ σ.I 0 59 ∧ σ.I 0 59 ≤ 200) : CC E mX0_line d [aO 0, aI (x1), aI (x2)] σ (RL σ (if ¬ (0 ≤ x1 ∧ x1 < σ.I 0 59) then -1 else if x2 = 0 then σ.I 83 x1 else if x2 = 1 then σ.I 84 x1 else if x2 = 2 then σ.I 85 x1 else if x2 = 3 then σ.I 86 x1 else -1)) := by sorry
theorem sp_X9_line {E : XE} {d : Nat} {σ : Sto} {x1 : Int} {x2 : Int} (hd : 1 ≤ d) (hL : Lay σ)  (p0 : inR x1) (p1 : inR x2) (p2 : 0 ≤ σ.I 555 133 ∧ σ.I 555 133 ≤ 130) : CC E mX9_line d [aO 555, aI (x1), aI (x2)] σ (RL σ (if ¬ (0 ≤ x1 ∧ x1 < σ.I 555 133) ∨ x2 < 0 ∨ 3 < x2 then -1 else σ.I 653 (4 * x1 + x2))) := by sorry
theorem sp_X0_mark {E : XE} {d : Nat} {σ : Sto} {x1 : Int} {x2 : Int} (hd : 2 ≤ d) (hL : Lay σ)  (p0 : inR x1) (p1 : inR x2) (p2 : 0 ≤ σ.I 0 75 ∧ σ.I 0 75 ≤ 6000) : CC E mX0_mark d [aO 0, aI (x1), aI (x2)] σ (RI σ (if ¬ (0 ≤ x1 ∧ x1 < σ.I 0 75) then -1 else if x2 = 0 then σ.I 193 x1 else if x2 = 1 then σ.I 194 x1 else if x2 = 2 then σ.I 195 x1 else -1)) := by sorry
theorem sp_X9_mark {E : XE} {d : Nat} {σ : Sto} {x1 : Int} {x2 : Int} (hd : 1 ≤ d) (hL : Lay σ)  (p0 : inR x1) (p1 : inR x2) (p2 : 0 ≤ σ.I 555 134 ∧ σ.I 555 134 ≤ 6000) : CC E mX9_mark d [aO 555, aI (x1), aI (x2)] σ (RI σ (if ¬ (0 ≤ x1 ∧ x1 < σ.I 555 134) ∨ x2 < 0 ∨ 2 < x2 then -1 else σ.I 655 (3 * x1 + x2))) := by sorry
theorem sp_X0_matched {E : XE} {d : Nat} {σ : Sto} {x1 : Int} (hd : 2 ≤ d) (hL : Lay σ)  (p0 : inR x1) (p1 : 0 ≤ σ.I 0 94 ∧ σ.I 0 94 ≤ 20) : CC E mX0_matched d [aO 0, aI (x1)] σ (RI σ (if (0 ≤ x1 ∧ x1 < σ.I 0 94) then σ.I 209 x1 else -1)) := by sorry
theorem sp_X9_matched {E : XE} {d : Nat} {σ : Sto} {x1 : Int} (hd : 1 ≤ d) (hL : Lay σ)  (p0 : inR x1) (p1 : 0 ≤ σ.I 555 160 ∧ σ.I 555 160 ≤ 20) : CC E mX9_matched d [aO 555, aI (x1)] σ (RI σ (if (0 ≤ x1 ∧ x1 < σ.I 555 160) then σ.I 672 x1 else -1)) := by sorry
theorem sp_X0_term {E : XE} {d : Nat} {σ : Sto} {x1 : Int} {x2 : Int} (hd : 2 ≤ d) (hL : Lay σ)  (p0 : inR x1) (p1 : inR x2) (p2 : 0 ≤ σ.I 0 88 ∧ σ.I 0 88 ≤ 10) : CC E mX0_term d [aO 0, aI (x1), aI (x2)] σ (RI σ (if ¬ (0 ≤ x1 ∧ x1 < σ.I 0 88) then -1 else if x2 = 0 then σ.I 205 x1 else if x2 = 1 then σ.I 202 x1 else if x2 = 2 then σ.I 203 x1 else -1)) := by sorry
theorem sp_X9_term {E : XE} {d : Nat} {σ : Sto} {x1 : Int} {x2 : Int} (hd : 1 ≤ d) (hL : Lay σ)  (p0 : inR x1) (p1 : inR x2) (p2 : 0 ≤ σ.I 555 154 ∧ σ.I 555 154 ≤ 10) : CC E mX9_term d [aO 555, aI (x1), aI (x2)] σ (RI σ (if ¬ (0 ≤ x1 ∧ x1 < σ.I 555 154) ∨ x2 < 0 ∨ 2 < x2 then -1 else σ.I 668 (3 * x1 + x2))) := by sorry
theorem sp_X0_termByte {E : XE} {d : Nat} {σ : Sto} {x1 : Int} {x2 : Int} (hd : 2 ≤ d) (hL : Lay σ)  (p0 : inR x1) (p1 : inR x2) (p2 : 0 ≤ σ.I 0 88 ∧ σ.I 0 88 ≤ 10) (p3 : bd_0_20 σ 205 10) : CC E mX0_termByte d [aO 0, aI (x1), aI (x2)] σ (RI σ (if (0 ≤ x1 ∧ x1 < σ.I 0 88) ∧ (0 ≤ x2 ∧ x2 < σ.I 205 x1) then σ.I 204 (20 * x1 + x2) % 256 else -1)) := by sorry
theorem sp_X9_termByte {E : XE} {d : Nat} {σ : Sto} {x1 : Int} {x2 : Int} (hd : 1 ≤ d) (hL : Lay σ)  (p0 : inR x1) (p1 : inR x2) (p2 : 0 ≤ σ.I 555 154 ∧ σ.I 555 154 ≤ 10) (p3 : bd_0_1000 σ 668 30) (p4 : ∀ i, 0 ≤ i → i < 10 → σ.I 668 (3 * i) ≤ 20) : CC E mX9_termByte d [aO 555, aI (x1), aI (x2)] σ (RI σ (if (0 ≤ x1 ∧ x1 < σ.I 555 154) ∧ (0 ≤ x2 ∧ x2 < σ.I 668 (3 * x1)) then σ.I 667 (20 * x1 + x2) % 256 else -1)) := by sorry
theorem sp_X0_token {E : XE} {d : Nat} {σ : Sto} {x1 : Int} {x2 : Int} (hd : 2 ≤ d) (hL : Lay σ)  (p0 : inR x1) (p1 : inR x2) (p2 : 0 ≤ σ.I 4 5 ∧ σ.I 4 5 ≤ 250) : CC E mX0_token d [aO 0, aI (x1), aI (x2)] σ (RI σ (if ¬ (0 ≤ x1 ∧ x1 < σ.I 4 5) then -1 else if x2 = 0 then σ.I 7 x1 else if x2 = 1 then σ.I 8 x1 else if x2 = 2 then σ.I 9 x1 else if x2 = 3 then σ.I 6 x1 else -1)) := by sorry
theorem sp_X9_token {E : XE} {d : Nat} {σ : Sto} {x1 : Int} {x2 : Int} (hd : 1 ≤ d) (hL : Lay σ)  (p0 : inR x1) (p1 : inR x2) (p2 : 0 ≤ σ.I 555 24 ∧ σ.I 555 24 ≤ 250) : CC E mX9_token d [aO 555, aI (x1), aI (x2)] σ (RI σ (if ¬ (0 ≤ x1 ∧ x1 < σ.I 555 24) ∨ x2 < 0 ∨ 3 < x2 then -1 else σ.I 575 (4 * x1 + x2))) := by sorry
theorem sp_X0_letter {E : XE} {d : Nat} {σ : Sto} {x1 : Int} {x2 : Int} (hd : 2 ≤ d) (hL : Lay σ)  (p0 : inR x1) (p1 : inR x2) (p2 : 0 ≤ σ.I 4 5 ∧ σ.I 4 5 ≤ 250) (p3 : bd_0_20 σ 6 250) : CC E mX0_letter d [aO 0, aI (x1), aI (x2)] σ (RI σ (if (0 ≤ x1 ∧ x1 < σ.I 4 5) ∧ (0 ≤ x2 ∧ x2 < σ.I 6 x1) then σ.I 5 (20 * x1 + x2) % 256 else -1)) := by sorry
theorem sp_X9_letter {E : XE} {d : Nat} {σ : Sto} {x1 : Int} {x2 : Int} (hd : 1 ≤ d) (hL : Lay σ)  (p0 : inR x1) (p1 : inR x2) (p2 : 0 ≤ σ.I 555 24 ∧ σ.I 555 24 ≤ 250) (p3 : 0 ≤ x1 ∧ x1 < σ.I 555 24 → σ.I 575 (4 * x1 + 3) ≤ 20) : CC E mX9_letter d [aO 555, aI (x1), aI (x2)] σ (RI σ (if (0 ≤ x1 ∧ x1 < σ.I 555 24) ∧ (0 ≤ x2 ∧ x2 < σ.I 575 (4 * x1 + 3)) then σ.I 576 (20 * x1 + x2) % 256 else -1)) := by sorry
theorem sp_X0_group {E : XE} {d : Nat} {σ : Sto} {x1 : Int} {x2 : Int} (hd : 2 ≤ d) (hL : Lay σ)  (p0 : inR x1) (p1 : inR x2) (p2 : 0 ≤ σ.I 0 79 ∧ σ.I 0 79 ≤ 6000) (p3 : bd_0_36499 σ 196 (σ.I 0 79) ∨ σ.I 0 80 = 0) (p4 : bd_0_20 σ 21 36500) : CC E mX0_group d [aO 0, aI (x1), aI (x2)] σ (RI σ (if ¬ (0 ≤ x1 ∧ x1 < σ.I 0 79) then -1 else if x2 = 0 then σ.I 197 x1 else if x2 = 1 then σ.I 198 x1 else if x2 = 2 then (if σ.I 0 80 = 1 then σ.I 21 (σ.I 196 x1) else 0) else -1)) := by sorry
theorem sp_X0_groupOf {E : XE} {d : Nat} {σ : Sto} {x1 : Int} {x2 : Int} (hd : 2 ≤ d) (hL : Lay σ)  (p0 : inR x1) (p1 : inR x2) (p2 : 0 ≤ σ.I 0 79 ∧ σ.I 0 79 ≤ 6000) (p3 : bd_0_36499 σ 196 (σ.I 0 79) ∨ σ.I 0 80 = 0) (p4 : bd_0_20 σ 21 36500) : CC E mX0_groupOf d [aO 0, aI (x1), aI (x2)] σ (RL σ (if ¬ (0 ≤ x1 ∧ x1 < σ.I 0 79) ∨ x2 < 0 then -1 else if σ.I 0 80 = 0 then (if x2 = 0 then σ.I 196 x1 else -1) else if x2 < σ.I 21 (σ.I 196 x1) then σ.I 19 (20 * σ.I 196 x1 + x2) % 256 else -1)) := by sorry
theorem sp_X9_group {E : XE} {d : Nat} {σ : Sto} {x1 : Int} {x2 : Int} (hd : 2 ≤ d) (hL : Lay σ)  (p0 : inR x1) (p1 : inR x2) (p2 : 0 ≤ σ.I 555 135 ∧ σ.I 555 135 ≤ 6000) (p3 : bd_0_23999 σ 658 (σ.I 555 135) ∨ σ.I 555 141 = 0) (p4 : bd_0_20 σ 587 24000) : CC E mX9_group d [aO 555, aI (x1), aI (x2)] σ (RI σ (if ¬ (0 ≤ x1 ∧ x1 < σ.I 555 135) ∨ x2 < 0 ∨ 2 < x2 then -1 else if x2 = 0 then σ.I 656 x1 else if x2 = 1 then σ.I 657 x1 else if x2 = 2 then (if σ.I 555 141 = 1 then σ.I 587 (σ.I 658 x1) else 0) else -1)) := by sorry
theorem sp_X9_groupOf {E : XE} {d : Nat} {σ : Sto} {x1 : Int} {x2 : Int} (hd : 2 ≤ d) (hL : Lay σ)  (p0 : inR x1) (p1 : inR x2) (p2 : 0 ≤ σ.I 555 135 ∧ σ.I 555 135 ≤ 6000) (p3 : bd_0_23999 σ 658 (σ.I 555 135) ∨ σ.I 555 141 = 0) (p4 : bd_0_20 σ 587 24000) : CC E mX9_groupOf d [aO 555, aI (x1), aI (x2)] σ (RL σ (if ¬ (0 ≤ x1 ∧ x1 < σ.I 555 135) ∨ x2 < 0 then -1 else if σ.I 555 141 = 0 then (if x2 = 0 then σ.I 659 x1 else -1) else if x2 < σ.I 587 (σ.I 658 x1) then σ.I 586 (20 * σ.I 658 x1 + x2) % 256 else -1)) := by sorry
theorem sp_X0_written {E : XE} {d : Nat} {σ : Sto} {x1 : Int} (hd : 2 ≤ d) (hL : Lay σ)  (p0 : inR x1) (p1 : 0 ≤ σ.I 0 100 ∧ σ.I 0 100 ≤ 30000) : CC E mX0_written d [aO 0, aI (x1)] σ (RI σ (if (0 ≤ x1 ∧ x1 < σ.I 0 100) then σ.I 212 x1 % 256 else -1)) := by sorry
/-- the sum of bytes, before it wraps -/
def smHN (A : Int → Int) : Nat → Int
  | 0 => 1
  | n + 1 => 31 * smHN A n + A n % 256
def smH (A : Int → Int) (n : Int) : Int := smHN A n.toNat
theorem smH_0 (A : Int → Int) (n : Int) (h : n ≤ 0) : smH A n = 1 := by
  unfold smH
  have : n.toNat = 0 := by omega
  rw [this]; rfl
theorem smH_s (A : Int → Int) (n m : Int) (h : 0 ≤ n) (hm : m = n + 1) : smH A m = 31 * smH A n + A n % 256 := by
  unfold smH
  have e : m.toNat = n.toNat + 1 := by omega
  have e2 : ((n.toNat : Nat) : Int) = n := by omega
  rw [e]
  show 31 * smHN A n.toNat + A (n.toNat : Nat) % 256 = _
  rw [e2]
/-- how bytes are hashed, before it wraps -/
def hsHN (A : Int → Int) (i f : Int) : Nat → Int
  | 0 => f
  | n + 1 => 31 * hsHN A i f n + A (i + n)
def hsH (A : Int → Int) (i f n : Int) : Int := hsHN A i f n.toNat
theorem hsH_0 (A : Int → Int) (i f n : Int) (h : n ≤ 0) : hsH A i f n = f := by
  unfold hsH
  have : n.toNat = 0 := by omega
  rw [this]; rfl
theorem hsH_s (A : Int → Int) (i f n m : Int) (h : 0 ≤ n) (hm : m = n + 1) : hsH A i f m = 31 * hsH A i f n + A (i + n) := by
  unfold hsH
  have e : m.toNat = n.toNat + 1 := by omega
  have e2 : ((n.toNat : Nat) : Int) = n := by omega
  rw [e]
  show 31 * hsHN A i f n.toNat + A (i + (n.toNat : Nat)) = _
  rw [e2]
/-- the chain of a term -/
def chO (A : Int → Int) (i f n : Int) : Int := b32and (b32xor (hsH A i f n) (b32ushr (hsH A i f n) 13)) 8191
theorem chO_in (A : Int → Int) (i f n : Int) : chO A i f n = 0 ∨ (0 < chO A i f n ∧ chO A i f n < 8192) := by unfold chO; rw [and8191]; omega
theorem sp_X0_sumOf {E : XE} {d : Nat} {σ : Sto} {o0 : Nat} {n0 : Nat} {x1 : Int} (hd : 1 ≤ d) (hL : Lay σ) (ho0 : σ.sh o0 = (1, n0)) (p0 : 0 ≤ x1 ∧ x1 ≤ n0 ∧ x1 ≤ 30000) : CC E mX0_sumOf d [aO o0, aI (x1)] σ (RI σ (w32 (smH (σ.I o0) x1))) := by sorry
theorem sp_X9_sumOf {E : XE} {d : Nat} {σ : Sto} {o0 : Nat} {n0 : Nat} {x1 : Int} (hd : 1 ≤ d) (hL : Lay σ) (ho0 : σ.sh o0 = (1, n0)) (p0 : 0 ≤ x1 ∧ x1 ≤ n0 ∧ x1 ≤ 30000) : CC E mX9_sumOf d [aO o0, aI (x1)] σ (RI σ (w32 (smH (σ.I o0) x1))) := by sorry
theorem sp_X2_chainOf {E : XE} {d : Nat} {σ : Sto} {x1 : Int} {o2 : Nat} {n2 : Nat} {x3 : Int} {x4 : Int} (hd : 1 ≤ d) (hL : Lay σ) (ho2 : σ.sh o2 = (1, n2)) (p0 : 0 ≤ x3 ∧ 0 ≤ x4 ∧ x3 + x4 ≤ n2) (p1 : (n2 : Int) ≤ 1000000) : CC E mX2_chainOf d [aO 18, aI (x1), aO o2, aI (x3), aI (x4)] σ (RI σ (chO (σ.I o2) x3 x1 x4)) := by sorry
theorem sp_X2_clear {E : XE} {d : Nat} {σ : Sto}  (hd : 1 ≤ d) (hL : Lay σ)   : CC E mX2_clear d [aO 18] σ (RV (fun τ => RD σ τ (fun c i => if rg c i 25 0 8192 then -1 else if at2 c i 18 7 then 0 else σ.I c i))) := by sorry
theorem sp_X2_is {E : XE} {d : Nat} {σ : Sto} {x1 : Int} {x2 : Int} {o3 : Nat} {n3 : Nat} {x4 : Int} {x5 : Int} (hd : 1 ≤ d) (hL : Lay σ) (ho3 : σ.sh o3 = (1, n3)) (p0 : 0 ≤ x1 ∧ x1 < 36500) (p1 : inR x2) (p2 : 0 ≤ x4 ∧ 0 ≤ x5 ∧ x5 ≤ 20 ∧ x4 + x5 ≤ n3) (p3 : (n3 : Int) ≤ 1000000) : CC E mX2_is d [aO 18, aI (x1), aI (x2), aO o3, aI (x4), aI (x5)] σ (RZ σ ((σ.I 20 x1 = x2 ∧ σ.I 21 x1 = x5) ∧ eqA (σ.I 19) (σ.I o3) (20 * x1) x4 x5)) := by sorry
end
section
/-! contracts: printed by tools/mk.py out of s27_leaf.py -/
set_option maxRecDepth 100000
set_option maxHeartbeats 1500000
/-- sums of those with p -/
noncomputable def smPN (p : Int → Prop) (f : Int → Int) : Nat → Int
  | 0 => 0
  | n + 1 => smPN p f n + zb (p n) * f n
noncomputable def smP (p : Int → Prop) (f : Int → Int) (n : Int) : Int := smPN p f n.toNat
theorem smP_0 (p : Int → Prop) (f : Int → Int) (n : Int) (h : n ≤ 0) : smP p f n = 0 := by
  unfold smP
  have : n.toNat = 0 := by omega
  rw [this]; rfl
theorem smP_e (p : Int → Prop) (f : Int → Int) (n m : Int) (h : 0 ≤ n) (hm : m = n + 1) : smP p f m = smP p f n + zb (p n) * f n := by
  unfold smP
  have e : m.toNat = n.toNat + 1 := by omega
  have e2 : ((n.toNat : Nat) : Int) = n := by omega
  rw [e]
  show smPN p f n.toNat + zb (p (n.toNat : Nat)) * f (n.toNat : Nat) = _
  rw [e2]
theorem smP_t (p : Int → Prop) (f : Int → Int) (n m : Int) (h : 0 ≤ n) (hm : m = n + 1) (hp : p n) : smP p f m = smP p f n + f n := by rw [smP_e p f n m h hm, zb_t hp]; omega
theorem smP_f (p : Int → Prop) (f : Int → Int) (n m : Int) (h : 0 ≤ n) (hm : m = n + 1) (hp : ¬ p n) : smP p f m = smP p f n := by rw [smP_e p f n m h hm, zb_f hp]; omega
theorem smP_cg {p q : Int → Prop} {f g : Int → Int} {n : Int} (h : ∀ k, 0 ≤ k → k < n → (p k ↔ q k)) (hf : ∀ k, 0 ≤ k → k < n → p k → f k = g k) : smP p f n = smP q g n := by
  unfold smP
  have key : ∀ m : Nat, (m : Int) ≤ n ∨ m = 0 → smPN p f m = smPN q g m := by
    intro m
    induction m with
    | zero => intro _; rfl
    | succ m ih =>
      intro hm
      show smPN p f m + zb (p m) * f m = smPN q g m + zb (q m) * g m
      rw [ih (Or.inl (by omega)), zb_iff (h m (by omega) (by omega))]
      by_cases e : p m
      · rw [hf m (by omega) (by omega) e]
      · rw [zb_f (fun z => e ((h m (by omega) (by omega)).mpr z))]; omega
  exact key n.toNat (by omega)
def SMP : Unit := ()
/-- objects' values lie within the rows -/
def OB (σ : Sto) (a b : Nat) : Prop := ∀ o, 0 ≤ o → o < 601 → 0 ≤ σ.I a o ∧ 0 ≤ σ.I b o ∧ σ.I b o ≤ 24 ∧ σ.I a o + σ.I b o ≤ 6000
theorem OB_at {σ : Sto} {a b : Nat} {o : Int} (h : OB σ a b) (h0 : 0 ≤ o) (h1 : o < 601) : (σ.I a o = 0 ∨ 0 < σ.I a o) ∧ (σ.I b o = 0 ∨ 0 < σ.I b o) ∧ σ.I b o ≤ 24 ∧ σ.I a o + σ.I b o ≤ 6000 := by have := h o h0 h1; omega
/-- how many tokens a value has, in the model -/
def tcM (σ : Sto) (v : Int) : Int := σ.I 582 (v + 1) - σ.I 582 v
def VT (σ : Sto) (n : Int) : Prop := ∀ v, 0 ≤ v → v < n → 0 ≤ tcM σ v ∧ tcM σ v ≤ 250 ∧ 0 ≤ σ.I 582 v ∧ σ.I 582 (v + 1) ≤ 24000
theorem VT_at {σ : Sto} {n v : Int} (h : VT σ n) (h0 : 0 ≤ v) (h1 : v < n) : (tcM σ v = 0 ∨ (0 < tcM σ v ∧ tcM σ v ≤ 250)) ∧ 0 ≤ σ.I 582 v ∧ σ.I 582 (v + 1) ≤ 24000 := by have := h v h0 h1; omega
/-- objects of the world have values that are there -/
def WOB (σ : Sto) : Prop := ∀ o, 0 ≤ o → o < 601 → σ.I 601 o = 1 → σ.I 595 o + σ.I 596 o ≤ σ.I 555 30
theorem WOB_at {σ : Sto} {o : Int} (h : WOB σ) (h0 : 0 ≤ o) (h1 : o < 601) (h2 : σ.I 601 o = 1) : σ.I 595 o + σ.I 596 o ≤ σ.I 555 30 := h o h0 h1 h2
def mV (σ : Sto) (f v : Int) : Prop := σ.I 579 v = f ∧ σ.I 602 f = 1
def mT (σ : Sto) (A : Int → Int) (i n t : Int) : Prop := σ.I 587 t = n ∧ eqA (σ.I 586) A (20 * t) i n
def mVT (σ : Sto) (f : Int) (A : Int → Int) (i n v : Int) : Prop := mV σ f v ∧ exN (fun t => mT σ A i n (σ.I 582 v + t)) (tcM σ v)
def mHT (σ : Sto) (f : Int) (A : Int → Int) (i n o : Int) : Prop := exN (fun j => mVT σ f A i n (σ.I 595 o + j)) (σ.I 596 o)
def mHV (σ : Sto) (f o : Int) : Prop := exN (fun j => mV σ f (σ.I 595 o + j)) (σ.I 596 o)
noncomputable def mTO (σ : Sto) (f o : Int) : Int := smP (fun j => mV σ f (σ.I 595 o + j)) (fun j => tcM σ (σ.I 595 o + j)) (σ.I 596 o)
theorem sp_X9_isValueOf {E : XE} {d : Nat} {σ : Sto} {x1 : Int} {x2 : Int} (hd : 1 ≤ d) (hL : Lay σ)  (p0 : 0 ≤ x1 ∧ x1 < 6000) (p1 : 0 ≤ x2 ∧ x2 < 12) : CC E mX9_isValueOf d [aO 555, aI (x1), aI (x2)] σ (RZ σ (mV σ x2 x1)) := by sorry
theorem sp_X9_lastOf {E : XE} {d : Nat} {σ : Sto} {x1 : Int} (hd : 1 ≤ d) (hL : Lay σ)  (p0 : 0 ≤ x1 ∧ x1 < 601) (p1 : OB σ 595 596) : CC E mX9_lastOf d [aO 555, aI (x1)] σ (RI σ (σ.I 595 x1 + σ.I 596 x1)) := by sorry
theorem sp_X9_hasValue {E : XE} {d : Nat} {σ : Sto} {x1 : Int} {x2 : Int} (hd : 2 ≤ d) (hL : Lay σ)  (p0 : 0 ≤ x1 ∧ x1 < 601) (p1 : 0 ≤ x2 ∧ x2 < 12) (p2 : OB σ 595 596) : CC E mX9_hasValue d [aO 555, aI (x1), aI (x2)] σ (RZ σ (mHV σ x2 x1)) := by sorry
theorem sp_X9_tokensOf {E : XE} {d : Nat} {σ : Sto} {x1 : Int} {x2 : Int} (hd : 2 ≤ d) (hL : Lay σ)  (p0 : 0 ≤ x1 ∧ x1 < 601) (p1 : 0 ≤ x2 ∧ x2 < 12) (p2 : OB σ 595 596) (p3 : VT σ (σ.I 555 30)) (p4 : σ.I 555 30 ≤ 6000) (p5 : σ.I 595 x1 + σ.I 596 x1 ≤ σ.I 555 30) : CC E mX9_tokensOf d [aO 555, aI (x1), aI (x2)] σ (RI σ (mTO σ x2 x1)) := by sorry
theorem sp_X9_valued {E : XE} {d : Nat} {σ : Sto} {x1 : Int} (hd : 3 ≤ d) (hL : Lay σ)  (p0 : 0 ≤ x1 ∧ x1 < 12) (p1 : OB σ 595 596) : CC E mX9_valued d [aO 555, aI (x1)] σ (RI σ (cn (fun o => σ.I 601 o = 1 ∧ mHV σ x1 o) 601)) := by sorry
theorem sp_X9_isTerm {E : XE} {d : Nat} {σ : Sto} {x1 : Int} {o2 : Nat} {n2 : Nat} {x3 : Int} {x4 : Int} (hd : 2 ≤ d) (hL : Lay σ) (ho2 : σ.sh o2 = (1, n2)) (p0 : 0 ≤ x1 ∧ x1 < 24000) (p1 : 0 ≤ x3 ∧ 0 ≤ x4 ∧ x3 + x4 ≤ n2) (p2 : (n2 : Int) ≤ 1000000) (p3 : bd_0_20 σ 587 24000) : CC E mX9_isTerm d [aO 555, aI (x1), aO o2, aI (x3), aI (x4)] σ (RZ σ (mT σ (σ.I o2) x3 x4 x1)) := by sorry
theorem sp_X9_hasTerm {E : XE} {d : Nat} {σ : Sto} {x1 : Int} {x2 : Int} {o3 : Nat} {n3 : Nat} {x4 : Int} {x5 : Int} (hd : 3 ≤ d) (hL : Lay σ) (ho3 : σ.sh o3 = (1, n3)) (p0 : 0 ≤ x1 ∧ x1 < 601) (p1 : 0 ≤ x2 ∧ x2 < 12) (p2 : 0 ≤ x4 ∧ 0 ≤ x5 ∧ x4 + x5 ≤ n3) (p3 : (n3 : Int) ≤ 1000000) (p4 : OB σ 595 596) (p5 : VT σ (σ.I 555 30)) (p6 : σ.I 555 30 ≤ 6000) (p7 : σ.I 595 x1 + σ.I 596 x1 ≤ σ.I 555 30) (p8 : bd_0_20 σ 587 24000) : CC E mX9_hasTerm d [aO 555, aI (x1), aI (x2), aO o3, aI (x4), aI (x5)] σ (RZ σ (mHT σ x2 (σ.I o3) x4 x5 x1)) := by sorry
theorem sp_X9_withTerm {E : XE} {d : Nat} {σ : Sto} {x1 : Int} {o2 : Nat} {n2 : Nat} {x3 : Int} {x4 : Int} (hd : 4 ≤ d) (hL : Lay σ) (ho2 : σ.sh o2 = (1, n2)) (p0 : 0 ≤ x1 ∧ x1 < 12) (p1 : 0 ≤ x3 ∧ 0 ≤ x4 ∧ x3 + x4 ≤ n2) (p2 : (n2 : Int) ≤ 1000000) (p3 : OB σ 595 596) (p4 : VT σ (σ.I 555 30)) (p5 : σ.I 555 30 ≤ 6000) (p6 : WOB σ) (p7 : bd_0_20 σ 587 24000) : CC E mX9_withTerm d [aO 555, aI (x1), aO o2, aI (x3), aI (x4)] σ (RI σ (cn (fun o => σ.I 601 o = 1 ∧ mHT σ x1 (σ.I o2) x3 x4 o) 601)) := by sorry
theorem sp_X9_set {E : XE} {d : Nat} {σ : Sto} {x1 : Int} {x2 : Int} {x3 : Int} {y4 : Int} (hd : 1 ≤ d) (hL : Lay σ)  (p0 : 0 ≤ x1 ∧ x1 < 130) (p1 : 0 ≤ x2 ∧ x2 < 601) (p2 : 0 ≤ x3 ∧ x3 ≤ 1) (p3 : inL y4) : CC E mX9_set d [aO 555, aI (x1), aI (x2), aI (x3), aL (y4)] σ (RV (fun τ => RD σ τ (fun c i => if at2 c i 621 (601 * x1 + x2) then x3 else if at2 c i 622 (601 * x1 + x2) then if x3 = 1 then y4 else 0 else σ.I c i))) := by sorry
theorem sp_X6_shows {E : XE} {d : Nat} {σ : Sto} {o0 : Nat} {x1 : Int} (hd : 1 ≤ d) (hL : Lay σ) (ho0 : At6 σ o0) (p0 : 0 ≤ x1 ∧ x1 < 12) : CC E mX6_shows d [aO o0, aI (x1)] σ (RZ σ (¬ bt32 (σ.I o0 1) x1)) := by sorry
theorem sp_X5_set {E : XE} {d : Nat} {σ : Sto} {o0 : Nat} {x1 : Int} {x2 : Int} {x3 : Int} (hd : 1 ≤ d) (hL : Lay σ) (ho0 : At5 σ o0) (p0 : 0 ≤ x1 ∧ x1 < 200) (p1 : 0 ≤ x2 ∧ x2 < 601) (p2 : bd_0_59 σ (o0 + 21) 200) : CC E mX5_set d [aO o0, aI (x1), aI (x2), aI (x3)] σ (RV (fun τ => RD σ τ (fun c i => if at2 c i (o0 + 23) (601 * σ.I (o0 + 21) x1 + x2) then sx16 x3 else σ.I c i))) := by sorry
theorem sp_X5_find {E : XE} {d : Nat} {σ : Sto} {o0 : Nat} {x1 : Int} {x2 : Int} (hd : 1 ≤ d) (hL : Lay σ) (ho0 : At5 σ o0) (p0 : 0 ≤ x1 ∧ x1 < 200) (p1 : 0 ≤ x2 ∧ x2 < 601) (p2 : bd_0_59 σ (o0 + 21) 200) : CC E mX5_find d [aO o0, aI (x1), aI (x2)] σ (RI σ (σ.I (o0 + 23) (601 * σ.I (o0 + 21) x1 + x2))) := by sorry
end
section
/-! contracts: printed by tools/mk.py out of s28_world.py -/
set_option maxRecDepth 100000
set_option maxHeartbeats 1500000
/-- the first from i on below n; -1 for none -/
noncomputable def fsFN (q : Int → Prop) : Nat → Int → Int
  | 0, _ => -1
  | f + 1, i => if zb (q i) = 1 then i else fsFN q f (i + 1)
noncomputable def fsF (q : Int → Prop) (i n : Int) : Int := fsFN q (n - i).toNat i
theorem fsF_e (q : Int → Prop) (i n : Int) (h : n ≤ i) : fsF q i n = -1 := by
  unfold fsF
  have : (n - i).toNat = 0 := by omega
  rw [this]; rfl
theorem fsF_t (q : Int → Prop) (i n : Int) (h : i < n) (hq : q i) : fsF q i n = i := by
  unfold fsF
  have : (n - i).toNat = (n - (i + 1)).toNat + 1 := by omega
  rw [this]
  show (if zb (q i) = 1 then i else _) = i
  rw [if_pos (zb_t hq)]
theorem fsF_f (q : Int → Prop) (i m n : Int) (h : i < n) (hm : m = i + 1) (hq : ¬ q i) : fsF q i n = fsF q m n := by
  unfold fsF
  have : (n - i).toNat = (n - m).toNat + 1 := by omega
  rw [this]
  show (if zb (q i) = 1 then i else fsFN q (n - m).toNat (i + 1)) = _
  rw [if_neg (by rw [zb_f hq]; omega), hm]
/-- the last below n; -1 for none -/
noncomputable def lsN (q : Int → Prop) : Nat → Int
  | 0 => -1
  | n + 1 => if zb (q n) = 1 then n else lsN q n
noncomputable def ls (q : Int → Prop) (n : Int) : Int := lsN q n.toNat
theorem ls_0 (q : Int → Prop) (n : Int) (h : n ≤ 0) : ls q n = -1 := by
  unfold ls
  have : n.toNat = 0 := by omega
  rw [this]; rfl
theorem ls_t (q : Int → Prop) (n m : Int) (h : 0 ≤ n) (hm : m = n + 1) (hq : q n) : ls q m = n := by
  unfold ls
  have e : m.toNat = n.toNat + 1 := by omega
  have e2 : ((n.toNat : Nat) : Int) = n := by omega
  rw [e]
  show (if zb (q (n.toNat : Nat)) = 1 then ((n.toNat : Nat) : Int) else _) = _
  rw [e2, if_pos (zb_t hq)]
theorem ls_f (q : Int → Prop) (n m : Int) (h : 0 ≤ n) (hm : m = n + 1) (hq : ¬ q n) : ls q m = ls q n := by
  unfold ls
  have e : m.toNat = n.toNat + 1 := by omega
  have e2 : ((n.toNat : Nat) : Int) = n := by omega
  rw [e]
  show (if zb (q (n.toNat : Nat)) = 1 then ((n.toNat : Nat) : Int) else lsN q n.toNat) = _
  rw [e2, if_neg (by rw [zb_f hq]; omega)]
/-- the chains of children of a world o -/
def chQ (σ : Sto) (o : Nat) (p k : Int) : Prop := σ.I (o + 1) k = 1 ∧ σ.I 44 k = p
def CHN (σ : Sto) (o : Nat) : Prop := ∀ k, 0 ≤ k → k < σ.I o 7 → σ.I (o + 4) k = fsF (chQ σ o k) 0 (σ.I o 7) ∧ (σ.I (o + 1) k = 1 → 0 ≤ σ.I 44 k → σ.I (o + 5) k = fsF (chQ σ o (σ.I 44 k)) (k + 1) (σ.I o 7))
/-- values and tokens of fields, in SearchHouse -/
def xHV (σ : Sto) (f k : Int) : Prop := exN (fun j => σ.I 26 (σ.I 42 k + j) = f) (σ.I 43 k)
noncomputable def xTO (σ : Sto) (f k : Int) : Int := smP (fun j => σ.I 26 (σ.I 42 k + j) = f) (fun j => σ.I 32 (σ.I 42 k + j)) (σ.I 43 k)

theorem sp_X6_tokensOf {E : XE} {d : Nat} {σ : Sto} {o0 : Nat} {x1 : Int} {x2 : Int} (hd : 1 ≤ d) (hL : Lay σ) (ho0 : At6 σ o0) (p0 : 0 ≤ x1 ∧ x1 < 601) (p1 : OB σ 42 43) (p2 : bd_0_250 σ 32 6000) (p3 : inR x2) : CC E mX6_tokensOf d [aO o0, aI (x1), aI (x2)] σ (RI σ (xTO σ x2 x1)) := by sorry
theorem sp_X6_chain {E : XE} {d : Nat} {σ : Sto} {o0 : Nat} (hd : 1 ≤ d) (hL : Lay σ) (ho0 : At6 σ o0) (p0 : 102 ≤ o0 ∧ o0 ≤ 170) (p1 : 0 ≤ σ.I o0 7 ∧ σ.I o0 7 ≤ 601) (p2 : tre σ 44 (σ.I o0 7)) : CC E mX6_chain d [aO o0] σ (RV (fun τ => RD σ τ (fun c i => if rg c i (o0 + 4) 0 (σ.I o0 7) then fsF (chQ σ o0 i) 0 (σ.I o0 7) else if rg c i (o0 + 5) 0 (σ.I o0 7) ∧ σ.I (o0 + 1) i = 1 ∧ 0 ≤ σ.I 44 i then fsF (chQ σ o0 (σ.I 44 i)) (i + 1) (σ.I o0 7) else σ.I c i))) := by sorry
theorem sp_X6_objects {E : XE} {d : Nat} {σ : Sto} {o0 : Nat} {x1 : Int} (hd : 3 ≤ d) (hL : Lay σ) (ho0 : At6 σ o0) (p0 : 102 ≤ o0 ∧ o0 ≤ 170) (p1 : 0 ≤ σ.I 0 39 ∧ σ.I 0 39 ≤ 600) (p2 : tre σ 44 (σ.I 0 39)) (p3 : inR x1) : CC E mX6_objects d [aO o0, aI (x1)] σ (RV (fun τ => (RD σ τ (fun c i => if c = (o0 + 4) ∨ c = (o0 + 5) then τ.I c i else if at2 c i o0 6 then 0 else if at2 c i o0 7 then σ.I 0 39 else if at2 c i o0 8 then 0 else if at2 c i o0 1 then 0 else if rg c i (o0 + 1) 0 (σ.I 0 39) then zb (inV (σ.I 47) (σ.I 45) (σ.I 46) x1 i) else σ.I c i)) ∧ (CHN τ o0))) := by sorry
end
section
/-! contracts: printed by tools/mk.py out of s29_hits.py -/
set_option maxRecDepth 100000
set_option maxHeartbeats 1500000
/-- objects below n have values that are there -/
def OX (σ : Sto) (n : Int) : Prop := ∀ o, 0 ≤ o → o < n → 0 ≤ σ.I 42 o ∧ 0 ≤ σ.I 43 o ∧ σ.I 43 o ≤ 24 ∧ σ.I 42 o + σ.I 43 o ≤ σ.I 0 20
theorem OX_at {σ : Sto} {n o : Int} (h : OX σ n) (h0 : 0 ≤ o) (h1 : o < n) : (σ.I 42 o = 0 ∨ 0 < σ.I 42 o) ∧ (σ.I 43 o = 0 ∨ 0 < σ.I 43 o) ∧ σ.I 43 o ≤ 24 ∧ σ.I 42 o + σ.I 43 o ≤ σ.I 0 20 := by have := h o h0 h1; omega
def VFB (σ : Sto) (n : Int) : Prop := ∀ v, 0 ≤ v → v < n → 0 ≤ σ.I 26 v ∧ σ.I 26 v < σ.I 0 9
theorem VFB_at {σ : Sto} {n v : Int} (h : VFB σ n) (h0 : 0 ≤ v) (h1 : v < n) : (σ.I 26 v = 0 ∨ 0 < σ.I 26 v) ∧ σ.I 26 v < σ.I 0 9 := by have := h v h0 h1; omega
/-- where a new one comes among n: behind the last that is not behind it -/
noncomputable def ipN (q : Int → Prop) : Nat → Int
  | 0 => 0
  | n + 1 => if zb (q n) = 1 then ipN q n else (n : Int) + 1
noncomputable def ip (q : Int → Prop) (n : Int) : Int := ipN q n.toNat
theorem ip_0 (q : Int → Prop) (n : Int) (h : n ≤ 0) : ip q n = 0 := by
  unfold ip
  have : n.toNat = 0 := by omega
  rw [this]; rfl
theorem ip_t (q : Int → Prop) (n m : Int) (h : 0 ≤ n) (hm : m = n + 1) (hq : q n) : ip q m = ip q n := by
  unfold ip
  have e : m.toNat = n.toNat + 1 := by omega
  have e2 : ((n.toNat : Nat) : Int) = n := by omega
  rw [e]
  show (if zb (q (n.toNat : Nat)) = 1 then ipN q n.toNat else _) = _
  rw [e2, if_pos (zb_t hq)]
theorem ip_f (q : Int → Prop) (n m : Int) (h : 0 ≤ n) (hm : m = n + 1) (hq : ¬ q n) : ip q m = m := by
  unfold ip
  have e : m.toNat = n.toNat + 1 := by omega
  have e2 : ((n.toNat : Nat) : Int) = n := by omega
  rw [e]
  show (if zb (q (n.toNat : Nat)) = 1 then ipN q n.toNat else ((n.toNat : Nat) : Int) + 1) = _
  rw [e2, if_neg (by rw [zb_f hq]; omega), hm]
def bfX (σ : Sto) (dn gr i j : Int) : Prop :=
  (σ.I 192 i ≠ σ.I 192 j ∧ σ.I 192 i = 1) ∨
  (σ.I 192 i = σ.I 192 j ∧
    ((σ.I 191 i ≠ σ.I 191 j ∧ (dn = 1 ∧ σ.I 191 j < σ.I 191 i ∨ dn = 0 ∧ σ.I 191 i < σ.I 191 j)) ∨
     (σ.I 191 i = σ.I 191 j ∧
       ((σ.I 190 i ≠ σ.I 190 j ∧ (gr = 1 ∧ σ.I 190 j < σ.I 190 i ∨ gr = 0 ∧ σ.I 190 i < σ.I 190 j)) ∨
        (σ.I 190 i = σ.I 190 j ∧ σ.I 189 i < σ.I 189 j)))))
def bfM (K S : Int → Int) (sd o s p t by_ : Int) : Prop :=
  (by_ = 1 ∧ K o ≠ K p ∧ K o = 1) ∨
  (¬ (by_ = 1 ∧ K o ≠ K p) ∧
    ((by_ = 1 ∧ K o = 1 ∧ S o ≠ S p ∧ (sd = 1 ∧ S p < S o ∨ sd ≠ 1 ∧ S o < S p)) ∨
     (¬ (by_ = 1 ∧ K o = 1 ∧ S o ≠ S p) ∧ ((s ≠ t ∧ t < s) ∨ (s = t ∧ o < p)))))
theorem ip_x (q : Int → Prop) (m : Int) (h : 0 < m) (hq : ¬ q (m - 1)) : ip q m = m := ip_f q (m - 1) m (by omega) (by omega) hq

theorem sp_X0_isBefore {E : XE} {d : Nat} {σ : Sto} {x1 : Int} {x2 : Int} {x3 : Int} {x4 : Int} (hd : 1 ≤ d) (hL : Lay σ)  (p0 : 0 ≤ x1 ∧ x1 < 600) (p1 : 0 ≤ x2 ∧ x2 < 600) (p2 : 0 ≤ x3 ∧ x3 ≤ 1) (p3 : 0 ≤ x4 ∧ x4 ≤ 1) : CC E mX0_isBefore d [aO 0, aI (x1), aI (x2), aI (x3), aI (x4)] σ (RZ σ (bfX σ x3 x4 x1 x2)) := by sorry
theorem sp_X0_exchange {E : XE} {d : Nat} {σ : Sto} {x1 : Int} {x2 : Int} (hd : 1 ≤ d) (hL : Lay σ)  (p0 : 0 ≤ x1 ∧ x1 < 600) (p1 : 0 ≤ x2 ∧ x2 < 600) : CC E mX0_exchange d [aO 0, aI (x1), aI (x2)] σ (RV (fun τ => RD σ τ (fun c i => if at2 c i 189 x1 then σ.I 189 x2 else if at2 c i 189 x2 then σ.I 189 x1 else if at2 c i 190 x1 then σ.I 190 x2 else if at2 c i 190 x2 then σ.I 190 x1 else if at2 c i 191 x1 then σ.I 191 x2 else if at2 c i 191 x2 then σ.I 191 x1 else if at2 c i 192 x1 then σ.I 192 x2 else if at2 c i 192 x2 then σ.I 192 x1 else σ.I c i))) := by sorry
theorem sp_X0_addHit {E : XE} {d : Nat} {σ : Sto} {x1 : Int} {y2 : Int} (hd : 1 ≤ d) (hL : Lay σ)  (p0 : 0 ≤ σ.I 0 70 ∧ σ.I 0 70 < 600) (p1 : inR x1) (p2 : inL y2) : CC E mX0_addHit d [aO 0, aI (x1), aL (y2)] σ (RV (fun τ => RD σ τ (fun c i => if at2 c i 189 (σ.I 0 70) then x1 else if at2 c i 190 (σ.I 0 70) then y2 else if at2 c i 0 70 then σ.I 0 70 + 1 else σ.I c i))) := by sorry
theorem sp_X9_isBefore {E : XE} {d : Nat} {σ : Sto} {x1 : Int} {y2 : Int} {x4 : Int} {y5 : Int} {x7 : Int} (hd : 1 ≤ d) (hL : Lay σ)  (p0 : 0 ≤ x1 ∧ x1 < 601) (p1 : 0 ≤ x4 ∧ x4 < 601) (p2 : inL y2) (p3 : inL y5) (p4 : 0 ≤ x7 ∧ x7 ≤ 1) : CC E mX9_isBefore d [aO 555, aI (x1), aL (y2), aI (x4), aL (y5), aI (x7)] σ (RZ σ (bfM (σ.I 652) (σ.I 651) (σ.I 555 132) x1 y2 x4 y5 x7)) := by sorry
theorem sp_X9_addHit {E : XE} {d : Nat} {σ : Sto} {x1 : Int} {y2 : Int} {x4 : Int} (hd : 2 ≤ d) (hL : Lay σ)  (p0 : 0 ≤ σ.I 555 115 ∧ σ.I 555 115 < 600) (p1 : 0 ≤ x1 ∧ x1 < 601) (p2 : inL y2) (p3 : 0 ≤ x4 ∧ x4 ≤ 1) (p4 : bd_0_600 σ 637 600) : CC E mX9_addHit d [aO 555, aI (x1), aL (y2), aI (x4)] σ (RV (fun τ => RD σ τ (fun c i => if rg c i 637 (ip (fun j => bfM (σ.I 652) (σ.I 651) (σ.I 555 132) x1 y2 (σ.I 637 j) (σ.I 638 j) x4) (σ.I 555 115) + 1) ((σ.I 555 115) + 1) ∨ rg c i 638 (ip (fun j => bfM (σ.I 652) (σ.I 651) (σ.I 555 132) x1 y2 (σ.I 637 j) (σ.I 638 j) x4) (σ.I 555 115) + 1) ((σ.I 555 115) + 1) then σ.I c (i - 1) else if at2 c i 637 (ip (fun j => bfM (σ.I 652) (σ.I 651) (σ.I 555 132) x1 y2 (σ.I 637 j) (σ.I 638 j) x4) (σ.I 555 115)) then x1 else if at2 c i 638 (ip (fun j => bfM (σ.I 652) (σ.I 651) (σ.I 555 132) x1 y2 (σ.I 637 j) (σ.I 638 j) x4) (σ.I 555 115)) then y2 else if at2 c i 555 115 then σ.I 555 115 + 1 else σ.I c i))) := by sorry
theorem sp_X9_addNear {E : XE} {d : Nat} {σ : Sto} {x1 : Int} {y2 : Int} {x4 : Int} (hd : 1 ≤ d) (hL : Lay σ)  (p0 : 0 ≤ σ.I 555 115 ∧ σ.I 555 115 ≤ 50) (p1 : 0 ≤ x1 ∧ x1 < 601) (p2 : inL y2) (p3 : 1 ≤ x4 ∧ x4 ≤ 50) : CC E mX9_addNear d [aO 555, aI (x1), aL (y2), aI (x4)] σ (RV (fun τ => RD σ τ (fun c i => if rg c i 637 (ip (fun j => y2 < σ.I 638 j) (σ.I 555 115) + 1) ((σ.I 555 115) + 1) ∨ rg c i 638 (ip (fun j => y2 < σ.I 638 j) (σ.I 555 115) + 1) ((σ.I 555 115) + 1) then σ.I c (i - 1) else if at2 c i 637 (ip (fun j => y2 < σ.I 638 j) (σ.I 555 115)) then x1 else if at2 c i 638 (ip (fun j => y2 < σ.I 638 j) (σ.I 555 115)) then y2 else if at2 c i 555 115 then min x4 (σ.I 555 115 + 1) else σ.I c i))) := by sorry
theorem sp_X9_keepSeen {E : XE} {d : Nat} {σ : Sto} {x1 : Int} (hd : 1 ≤ d) (hL : Lay σ)  (p0 : inR x1) : CC E mX9_keepSeen d [aO 555, aI (x1)] σ (RV (fun τ => RD σ τ (fun c i => if at2 c i 555 114 then x1 else if rg c i 639 0 12 then σ.I 602 i else σ.I c i))) := by sorry
theorem sp_X9_wholeWorld {E : XE} {d : Nat} {σ : Sto} {x1 : Int} (hd : 2 ≤ d) (hL : Lay σ)  (p0 : 0 ≤ σ.I 555 52 ∧ σ.I 555 52 ≤ 600) (p1 : inR x1) : CC E mX9_wholeWorld d [aO 555, aI (x1)] σ (RV (fun τ => RD σ τ (fun c i => if rg c i 601 0 601 then zb (i < σ.I 555 52 ∧ inV (σ.I 594) (σ.I 592) (σ.I 593) x1 i) else if rg c i 602 0 12 then 1 else σ.I c i))) := by sorry
theorem sp_X6_alone {E : XE} {d : Nat} {σ : Sto} {o0 : Nat} (hd : 2 ≤ d) (hL : Lay σ) (ho0 : At6 σ o0) (p0 : 102 ≤ o0 ∧ o0 ≤ 170) (p1 : 0 ≤ σ.I 0 39 ∧ σ.I 0 39 ≤ 600) (p2 : tre σ 44 (σ.I 0 39)) (p3 : 0 ≤ σ.I 0 31 ∧ σ.I 0 31 ≤ σ.I 0 20) (p4 : σ.I 0 20 ≤ 6000) : CC E mX6_alone d [aO o0] σ (RV (fun τ => (RD σ τ (fun c i => if c = (o0 + 4) ∨ c = (o0 + 5) then τ.I c i else if at2 c i o0 6 then σ.I 0 39 else if at2 c i o0 7 then σ.I 0 39 + 1 else if at2 c i o0 8 then 1 else if at2 c i o0 1 then 0 else if rg c i (o0 + 1) 0 (σ.I 0 39) then 0 else if at2 c i (o0 + 1) (σ.I 0 39) then 1 else if at2 c i 42 (σ.I 0 39) then σ.I 0 31 else if at2 c i 43 (σ.I 0 39) then σ.I 0 20 - σ.I 0 31 else if at2 c i 44 (σ.I 0 39) then -1 else σ.I c i)) ∧ (CHN τ o0))) := by sorry
end
section
/-! contracts: printed by tools/mk.py out of s30_terms.py -/
set_option maxRecDepth 100000
set_option maxHeartbeats 1500000
/-- the chain of term t -/
def hT (σ : Sto) (t : Int) : Int := chO (σ.I 19) (20 * t) (σ.I 20 t) (σ.I 21 t)
/-- term t is a row of bytes of a field -/
def tQ (σ : Sto) (f : Int) (A : Int → Int) (i n t : Int) : Prop := (σ.I 20 t = f ∧ σ.I 21 t = n) ∧ eqA (σ.I 19) A (20 * t) i n
theorem hsH_cg {A B : Int → Int} {i j f n : Int} (h : eqA A B i j n) : hsH A i f n = hsH B j f n := by
  unfold hsH
  have key : ∀ m : Nat, (m : Int) ≤ n ∨ m = 0 → hsHN A i f m = hsHN B j f m := by
    intro m
    induction m with
    | zero => intro _; rfl
    | succ m ih =>
      intro hm
      show 31 * hsHN A i f m + A (i + m) = 31 * hsHN B j f m + B (j + m)
      rw [ih (Or.inl (by omega)), h m (by omega) (by omega)]
  exact key n.toNat (by omega)
theorem chO_cg {A B : Int → Int} {i j f n : Int} (h : eqA A B i j n) : chO A i f n = chO B j f n := by unfold chO; rw [hsH_cg h]
theorem tQ_h {σ : Sto} {f : Int} {A : Int → Int} {i n t : Int} (h : tQ σ f A i n t) : hT σ t = chO A i f n := by
  unfold hT
  rw [h.1.1, h.1.2]
  exact chO_cg h.2
theorem ls_in (q : Int → Prop) (n : Int) : ls q n = -1 ∨ (0 ≤ ls q n ∧ ls q n < n ∧ q (ls q n)) := by
  unfold ls
  have key : ∀ m : Nat, lsN q m = -1 ∨ (0 ≤ lsN q m ∧ lsN q m < m ∧ q (lsN q m)) := by
    intro m
    induction m with
    | zero => exact Or.inl rfl
    | succ m ih =>
      show (if zb (q m) = 1 then (m : Int) else lsN q m) = -1 ∨ (0 ≤ (if zb (q m) = 1 then (m : Int) else lsN q m) ∧ (if zb (q m) = 1 then (m : Int) else lsN q m) < ((m + 1 : Nat) : Int) ∧ q (if zb (q m) = 1 then (m : Int) else lsN q m))
      by_cases e : zb (q m) = 1
      · rw [if_pos e]; exact Or.inr ⟨by omega, by omega, zb_1.mp e⟩
      · rw [if_neg e]
        rcases ih with ih | ⟨h1, h2, h3⟩
        · exact Or.inl ih
        · exact Or.inr ⟨h1, by omega, h3⟩
  rcases key n.toNat with h | ⟨h1, h2, h3⟩
  · exact Or.inl h
  · exact Or.inr ⟨h1, by omega, h3⟩
theorem ls_cg {p q : Int → Prop} {n : Int} (h : ∀ k, 0 ≤ k → k < n → (p k ↔ q k)) : ls p n = ls q n := by
  unfold ls
  have key : ∀ m : Nat, (m : Int) ≤ n ∨ m = 0 → lsN p m = lsN q m := by
    intro m
    induction m with
    | zero => intro _; rfl
    | succ m ih =>
      intro hm
      show (if zb (p m) = 1 then (m : Int) else lsN p m) = (if zb (q m) = 1 then (m : Int) else lsN q m)
      rw [ih (Or.inl (by omega)), zb_iff (h m (by omega) (by omega))]
  exact key n.toNat (by omega)
/-- what is under those with P: the last one of them decides -/
theorem ls_jump {p q : Int → Prop} (h : ∀ s, q s → p s) (m : Int) : ls q m = ls q (ls p m + 1) := by
  by_cases h0 : m ≤ 0
  · rw [ls_0 p m h0, ls_0 q m h0]; exact (ls_0 q _ (by omega)).symm
  · obtain ⟨k, hk⟩ : ∃ k : Nat, m = k := ⟨m.toNat, by omega⟩
    subst hk
    clear h0
    induction k with
    | zero => rw [ls_0 p _ (by omega), ls_0 q _ (by omega)]; exact (ls_0 q _ (by omega)).symm
    | succ k ih =>
      by_cases e : p k
      · rw [ls_t p k ((k + 1 : Nat) : Int) (by omega) (by omega) e]; rfl
      · rw [ls_f p k ((k + 1 : Nat) : Int) (by omega) (by omega) e, ls_f q k ((k + 1 : Nat) : Int) (by omega) (by omega) (fun z => e (h _ z))]
        exact ih
theorem ls_j (σ : Sto) (f : Int) (A : Int → Int) (i n m : Int) : ls (tQ σ f A i n) m = ls (tQ σ f A i n) (ls (fun t => hT σ t = chO A i f n) m + 1) := ls_jump (fun _ h => tQ_h h) m
/-- chains begin with the last term of theirs; each term goes on with the one before it -/
def TC1 (σ : Sto) : Prop := ∀ c, 0 ≤ c → c < 8192 → σ.I 25 c = ls (fun t => hT σ t = c) (σ.I 18 7)
def TC2 (σ : Sto) : Prop := ∀ t, 0 ≤ t → t < σ.I 18 7 → σ.I 24 t = ls (fun s => hT σ s = hT σ t) t
theorem TC1_at {σ : Sto} {c : Int} (h : TC1 σ) (h0 : 0 ≤ c) (h1 : c < 8192) : σ.I 25 c = ls (fun t => hT σ t = c) (σ.I 18 7) := h c h0 h1
theorem TC2_at {σ : Sto} {t : Int} (h : TC2 σ) (h0 : 0 ≤ t) (h1 : t < σ.I 18 7) : σ.I 24 t = ls (fun s => hT σ s = hT σ t) t := h t h0 h1

theorem sp_X2_find {E : XE} {d : Nat} {σ : Sto} {x1 : Int} {o2 : Nat} {n2 : Nat} {x3 : Int} {x4 : Int} (hd : 2 ≤ d) (hL : Lay σ) (ho2 : σ.sh o2 = (1, n2)) (p0 : 0 ≤ x3 ∧ 0 ≤ x4 ∧ x3 + min x4 20 ≤ n2) (p1 : (n2 : Int) ≤ 1000000) (p2 : 0 ≤ x1 ∧ x1 ≤ 12) (p3 : inR x4) (p4 : TC1 σ) (p5 : TC2 σ) (p6 : 0 ≤ σ.I 18 7 ∧ σ.I 18 7 < 36500) : CC E mX2_find d [aO 18, aI (x1), aO o2, aI (x3), aI (x4)] σ (RI σ (ls (tQ σ x1 (σ.I o2) x3 (min x4 20)) (σ.I 18 7))) := by sorry
def TC (σ : Sto) : Prop := TC1 σ ∧ TC2 σ
theorem TC_come {σ τ : Sto} {f : Int} {A : Int → Int} {i n : Int} (h : TC σ) (hn : 0 ≤ n) (hn2 : n ≤ 20) (hC : 0 ≤ σ.I 18 7) (hC2 : σ.I 18 7 < 36500) (hb : bd_0_20 σ 21 36500)
    (e : τ.I = fun c j => if rg c j 19 (20 * σ.I 18 7) (20 * σ.I 18 7 + n) then A (i + (j - 20 * σ.I 18 7)) else if at2 c j 20 (σ.I 18 7) then f else if at2 c j 21 (σ.I 18 7) then n else if at2 c j 22 (σ.I 18 7) then -1 else if at2 c j 23 (σ.I 18 7) then -1 else if at2 c j 24 (σ.I 18 7) then σ.I 25 (chO A i f n) else if at2 c j 25 (chO A i f n) then σ.I 18 7 else if at2 c j 18 7 then σ.I 18 7 + 1 else σ.I c j) : TC τ := by
  have hcnt : τ.I 18 7 = σ.I 18 7 + 1 := by rw [e]; grind
  have hold : ∀ s, 0 ≤ s → s < σ.I 18 7 → hT τ s = hT σ s := by
    intro s h0 h1
    have hs := hb s h0 (by omega)
    have e1 : τ.I 20 s = σ.I 20 s := by rw [e]; grind
    have e2 : τ.I 21 s = σ.I 21 s := by rw [e]; grind
    unfold hT
    rw [e1, e2]
    refine chO_cg (fun k k0 k1 => ?_)
    rw [e]; grind
  have hnew : hT τ (σ.I 18 7) = chO A i f n := by
    have e1 : τ.I 20 (σ.I 18 7) = f := by rw [e]; grind
    have e2 : τ.I 21 (σ.I 18 7) = n := by rw [e]; grind
    unfold hT
    rw [e1, e2]
    refine chO_cg (fun k k0 k1 => ?_)
    rw [e]; grind
  have hin := chO_in A i f n
  constructor
  · intro c h0 h1
    rw [hcnt]
    by_cases hc : c = chO A i f n
    · rw [ls_t _ (σ.I 18 7) _ hC rfl (by rw [hnew, hc])]
      rw [e]; grind
    · rw [ls_f _ (σ.I 18 7) _ hC rfl (by rw [hnew]; exact fun z => hc z.symm)]
      have e1 : τ.I 25 c = σ.I 25 c := by rw [e]; grind
      rw [e1, h.1 c h0 h1]
      exact ls_cg (fun k k0 k1 => by rw [hold k k0 k1])
  · intro t h0 h1
    rw [hcnt] at h1
    by_cases ht : t = σ.I 18 7
    · subst ht
      have e1 : τ.I 24 (σ.I 18 7) = σ.I 25 (chO A i f n) := by rw [e]; grind
      rw [e1, h.1 _ (by omega) (by omega), hnew]
      exact ls_cg (fun k k0 k1 => by rw [hold k k0 k1])
    · have e1 : τ.I 24 t = σ.I 24 t := by rw [e]; grind
      rw [e1, h.2 t h0 (by omega), hold t h0 (by omega)]
      exact ls_cg (fun k k0 k1 => by rw [hold k k0 (by omega)])
theorem sp_X2_come {E : XE} {d : Nat} {σ : Sto} {x1 : Int} {o2 : Nat} {n2 : Nat} {x3 : Int} {x4 : Int} (hd : 3 ≤ d) (hL : Lay σ) (ho2 : σ.sh o2 = (1, n2)) (p0 : 0 ≤ x3 ∧ 0 ≤ x4 ∧ x3 + min x4 20 ≤ n2) (p1 : (n2 : Int) ≤ 1000000) (p2 : 0 ≤ x1 ∧ x1 ≤ 12) (p3 : inR x4) (p4 : TC σ) (p5 : 0 ≤ σ.I 18 7 ∧ σ.I 18 7 < 36499) (p6 : bd_0_20 σ 21 36500) (p7 : o2 ≤ 17 ∨ 26 ≤ o2 ∨ o2 = 19) (p8 : o2 = 19 → (x3 = 20 * σ.I 18 7 ∨ 20 * σ.I 18 7 + 20 ≤ x3)) : CC E mX2_come d [aO 18, aI (x1), aO o2, aI (x3), aI (x4)] σ (RVI (fun y τ => (y = if (ls (tQ σ x1 (σ.I o2) x3 (min x4 20)) (σ.I 18 7)) = -1 then (σ.I 18 7) else (ls (tQ σ x1 (σ.I o2) x3 (min x4 20)) (σ.I 18 7))) ∧ (RD σ τ (fun c i => if (ls (tQ σ x1 (σ.I o2) x3 (min x4 20)) (σ.I 18 7)) = -1 then (if rg c i 19 (20 * σ.I 18 7) (20 * σ.I 18 7 + (min x4 20)) then σ.I o2 (x3 + (i - 20 * σ.I 18 7)) else if at2 c i 20 (σ.I 18 7) then x1 else if at2 c i 21 (σ.I 18 7) then (min x4 20) else if at2 c i 22 (σ.I 18 7) then -1 else if at2 c i 23 (σ.I 18 7) then -1 else if at2 c i 24 (σ.I 18 7) then σ.I 25 (chO (σ.I o2) x3 x1 (min x4 20)) else if at2 c i 25 (chO (σ.I o2) x3 x1 (min x4 20)) then (σ.I 18 7) else if at2 c i 18 7 then σ.I 18 7 + 1 else σ.I c i) else σ.I c i)) ∧ (TC τ))) := by sorry
theorem hT_eq {σ τ : Sto} (h1 : τ.I 19 = σ.I 19) (h2 : τ.I 20 = σ.I 20) (h3 : τ.I 21 = σ.I 21) : hT τ = hT σ := by funext t; unfold hT; rw [h1, h2, h3]
theorem tQ_eq {σ τ : Sto} (h1 : τ.I 19 = σ.I 19) (h2 : τ.I 20 = σ.I 20) (h3 : τ.I 21 = σ.I 21) : tQ τ = tQ σ := by funext f A i n t; unfold tQ; rw [h1, h2, h3]
theorem sp_X2_drop {E : XE} {d : Nat} {σ : Sto} {x1 : Int} (hd : 2 ≤ d) (hL : Lay σ)  (p0 : TC σ) (p1 : 0 ≤ σ.I 18 7 ∧ σ.I 18 7 < 36500) (p2 : bd_0_20 σ 21 36500) (p3 : bd_0_12 σ 20 36500) (p4 : 0 ≤ x1 ∧ x1 ≤ 36500) : CC E mX2_drop d [aO 18, aI (x1)] σ (RV (fun τ => (RD σ τ (fun c i => if at2 c i 18 7 then (if x1 < σ.I 18 7 then x1 else σ.I 18 7) else if rg c i 25 0 8192 then ls (fun t => hT σ t = i) (if x1 < σ.I 18 7 then x1 else σ.I 18 7) else σ.I c i)) ∧ (TC τ))) := by sorry
end
section
/-! contracts: printed by tools/mk.py out of s31_link.py -/
set_option maxRecDepth 100000
set_option maxHeartbeats 1500000
theorem fsF_in (q : Int → Prop) (i n : Int) : fsF q i n = -1 ∨ (i ≤ fsF q i n ∧ fsF q i n < n ∧ q (fsF q i n)) := by
  by_cases h : n ≤ i
  · exact Or.inl (fsF_e q i n h)
  · obtain ⟨k, hk⟩ : ∃ k : Nat, (n - i).toNat = k := ⟨_, rfl⟩
    induction k generalizing i with
    | zero => omega
    | succ k ih =>
      by_cases hq : q i
      · rw [fsF_t q i n (by omega) hq]; exact Or.inr ⟨by omega, by omega, hq⟩
      · rw [fsF_f q i (i + 1) n (by omega) rfl hq]
        by_cases h2 : n ≤ i + 1
        · exact Or.inl (fsF_e q _ n h2)
        · rcases ih (i + 1) h2 (by omega) with z | ⟨z1, z2, z3⟩
          · exact Or.inl z
          · exact Or.inr ⟨by omega, z2, z3⟩
theorem fsF_x (q : Int → Prop) (i n m : Int) (h0 : 0 ≤ i) (h : i ≤ n) (hm : m = n + 1) : fsF q i m = if fsF q i n = -1 then (if zb (q n) = 1 then n else -1) else fsF q i n := by
  obtain ⟨k, hk⟩ : ∃ k : Nat, (n - i).toNat = k := ⟨_, rfl⟩
  induction k generalizing i with
  | zero =>
    have e : i = n := by omega
    subst e
    rw [fsF_e q i i (by omega), if_pos rfl]
    by_cases hq : q i
    · rw [if_pos (zb_t hq)]; exact fsF_t q i m (by omega) hq
    · rw [if_neg (by rw [zb_f hq]; omega), fsF_f q i (i + 1) m (by omega) rfl hq]; exact fsF_e q _ _ (by omega)
  | succ k ih =>
    by_cases hq : q i
    · rw [fsF_t q i n (by omega) hq, fsF_t q i m (by omega) hq, if_neg (by omega)]
    · rw [fsF_f q i (i + 1) n (by omega) rfl hq, fsF_f q i (i + 1) m (by omega) rfl hq]
      exact ih (i + 1) (by omega) (by omega) (by omega)
theorem fsF_ls (q : Int → Prop) (k n : Int) (h0 : 0 ≤ k) (hk : k < n) (hq : q k) : fsF q (k + 1) n = -1 ↔ ls q n = k := by
  obtain ⟨j, hj⟩ : ∃ j : Nat, (n - (k + 1)).toNat = j := ⟨_, rfl⟩
  induction j generalizing n with
  | zero =>
    have e : n = k + 1 := by omega
    subst e
    rw [fsF_e q _ _ (by omega), ls_t q k (k + 1) h0 rfl hq]; simp
  | succ j ih =>
    have hh := ih (n - 1) (by omega) (by omega)
    have hin := fsF_in q (k + 1) (n - 1)
    rw [fsF_x q (k + 1) (n - 1) n (by omega) (by omega) (by omega)]
    by_cases hn : q (n - 1)
    · rw [if_pos (zb_t hn), ls_t q (n - 1) n (by omega) (by omega) hn]
      by_cases z : fsF q (k + 1) (n - 1) = -1
      · rw [if_pos z]; omega
      · rw [if_neg z]; omega
    · have hz : ¬ zb (q (n - 1)) = 1 := by rw [zb_f hn]; omega
      rw [if_neg hz, ls_f q (n - 1) n (by omega) (by omega) hn, ← hh]
      by_cases z : fsF q (k + 1) (n - 1) = -1
      · rw [if_pos z]; simp [z]
      · rw [if_neg z]
theorem ls_fs (q : Int → Prop) (n : Int) : ls q n = -1 ↔ fsF q 0 n = -1 := by
  by_cases h : n ≤ 0
  · rw [ls_0 q n h, fsF_e q 0 n h]
  · obtain ⟨j, hj⟩ : ∃ j : Nat, n.toNat = j := ⟨_, rfl⟩
    induction j generalizing n with
    | zero => omega
    | succ j ih =>
      have hx := fsF_x q 0 (n - 1) n (by omega) (by omega) (by omega)
      have hin := fsF_in q 0 (n - 1)
      by_cases hn : q (n - 1)
      · rw [ls_t q (n - 1) n (by omega) (by omega) hn, hx, if_pos (zb_t hn)]
        by_cases z : fsF q 0 (n - 1) = -1
        · rw [if_pos z]
        · rw [if_neg z]; omega
      · have hz : ¬ zb (q (n - 1)) = 1 := by rw [zb_f hn]; omega
        rw [ls_f q (n - 1) n (by omega) (by omega) hn, hx, if_neg hz]
        have hh : ls q (n - 1) = -1 ↔ fsF q 0 (n - 1) = -1 := by
          by_cases h1 : n - 1 ≤ 0
          · rw [ls_0 q _ h1, fsF_e q 0 _ h1]
          · exact ih (n - 1) h1 (by omega)
        rw [hh]
        by_cases z : fsF q 0 (n - 1) = -1
        · rw [if_pos z]; simp [z]
        · rw [if_neg z]
def tkQ (σ : Sto) (t k : Int) : Prop := σ.I 36 k = t
def wkQ (σ : Sto) (t v : Int) : Prop := σ.I 16 (σ.I 26 v) = 1 ∧ σ.I 33 v = t
def isWt (σ : Sto) (t : Int) : Prop := σ.I 16 (σ.I 20 t) = 1
/-- the chains of tokens below K -/
def PT (σ : Sto) (K : Int) : Prop := (∀ t, 0 ≤ t → t < σ.I 18 7 → ¬ isWt σ t → σ.I 22 t = fsF (tkQ σ t) 0 K ∧ σ.I 23 t = ls (tkQ σ t) K) ∧ ∀ k, 0 ≤ k → k < K → σ.I 37 k = fsF (tkQ σ (σ.I 36 k)) (k + 1) K
/-- the chains of values of WORDs below V -/
def PW (σ : Sto) (V : Int) : Prop := (∀ t, 0 ≤ t → t < σ.I 18 7 → isWt σ t → σ.I 22 t = fsF (wkQ σ t) 0 V ∧ σ.I 23 t = ls (wkQ σ t) V) ∧ ∀ v, 0 ≤ v → v < V → σ.I 16 (σ.I 26 v) = 1 → σ.I 34 v = fsF (wkQ σ (σ.I 33 v)) (v + 1) V
theorem PT_step {σ τ : Sto} {K t : Int} (h : PT σ K) (hK : 0 ≤ K) (ht : σ.I 36 K = t) (h0 : 0 ≤ t) (h1 : t < σ.I 18 7) (hw : ¬ isWt σ t)
    (e1 : τ.I 36 = σ.I 36) (e2 : τ.I 20 = σ.I 20) (e3 : τ.I 16 = σ.I 16) (e4 : τ.I 18 7 = σ.I 18 7)
    (eh : τ.I 22 = fun i => if i = t ∧ σ.I 23 t < 0 then K else σ.I 22 i)
    (et : τ.I 23 = fun i => if i = t then K else σ.I 23 i)
    (en : τ.I 37 = fun i => if 0 ≤ σ.I 23 t ∧ i = σ.I 23 t then K else if i = K then -1 else σ.I 37 i) : PT τ (K + 1) := by
  have eq : tkQ τ = tkQ σ := by funext s k; unfold tkQ; rw [e1]
  have ew : isWt τ = isWt σ := by funext s; unfold isWt; rw [e2, e3]
  have hqt : tkQ σ t K := ht
  obtain ⟨hh, htl⟩ := h.1 t h0 h1 hw
  have hin := ls_in (tkQ σ t) K
  refine ⟨fun s s0 s1 sw => ?_, fun k k0 k1 => ?_⟩
  · rw [eq, eh, et]
    rw [ew] at sw; rw [e4] at s1
    obtain ⟨a, b⟩ := h.1 s s0 s1 sw
    have hx := fsF_x (tkQ σ s) 0 K (K + 1) (by omega) hK rfl
    have hl := ls_fs (tkQ σ s) K
    by_cases hs : s = t
    · subst hs
      rw [hx, if_pos (zb_t hqt), ls_t _ K _ hK rfl hqt]
      refine ⟨?_, if_pos rfl⟩
      show (if s = s ∧ σ.I 23 s < 0 then K else σ.I 22 s) = _
      by_cases z : fsF (tkQ σ s) 0 K = -1
      · rw [if_pos z, if_pos ⟨rfl, by rw [htl, hl.mpr z]; omega⟩]
      · rw [if_neg z, if_neg (fun y => z (hl.mp (by omega))), a]
    · have hn : ¬ tkQ σ s K := fun y => hs (y.symm.trans ht)
      have hz : ¬ zb (tkQ σ s K) = 1 := by rw [zb_f hn]; omega
      rw [hx, if_neg hz, ls_f _ K _ hK rfl hn]
      refine ⟨?_, ?_⟩
      · show (if s = t ∧ σ.I 23 t < 0 then K else σ.I 22 s) = _
        rw [if_neg (fun y => hs y.1), a]
        by_cases z : fsF (tkQ σ s) 0 K = -1
        · rw [if_pos z, z]
        · rw [if_neg z]
      · show (if s = t then K else σ.I 23 s) = _
        rw [if_neg hs, b]
  · rw [eq, en, e1]
    show (if 0 ≤ σ.I 23 t ∧ k = σ.I 23 t then K else if k = K then -1 else σ.I 37 k) = _
    by_cases hk : k = K
    · subst hk
      rw [if_neg (by omega), if_pos rfl, fsF_e _ _ _ (by omega)]
    · have hb := h.2 k k0 (by omega)
      have hx := fsF_x (tkQ σ (σ.I 36 k)) (k + 1) K (K + 1) (by omega) (by omega) rfl
      by_cases hs : σ.I 36 k = t
      · have hl := fsF_ls (tkQ σ t) k K k0 (by omega) hs
        rw [hs] at hb hx ⊢
        rw [hx, if_pos (zb_t hqt)]
        by_cases z : fsF (tkQ σ t) (k + 1) K = -1
        · rw [if_pos z, if_pos ⟨by rw [htl, hl.mp z]; exact k0, by rw [htl, hl.mp z]⟩]
        · rw [if_neg z, if_neg (fun y => z (hl.mpr (by omega))), if_neg hk, hb]
      · have hn : ¬ tkQ σ (σ.I 36 k) K := fun y => hs (y.symm.trans ht)
        have hz : ¬ zb (tkQ σ (σ.I 36 k) K) = 1 := by rw [zb_f hn]; omega
        rw [hx, if_neg hz]
        have ne : ¬ (0 ≤ σ.I 23 t ∧ k = σ.I 23 t) := by
          rintro ⟨y1, y2⟩
          rcases hin with z | ⟨z1, z2, z3⟩
          · omega
          · rw [← htl, ← y2] at z3; exact hs z3
        rw [if_neg ne, if_neg hk, hb]
        by_cases z : fsF (tkQ σ (σ.I 36 k)) (k + 1) K = -1
        · rw [if_pos z, z]
        · rw [if_neg z]
theorem PW_step {σ τ : Sto} {V t : Int} (h : PW σ V) (hV : 0 ≤ V) (hv : σ.I 16 (σ.I 26 V) = 1) (ht : σ.I 33 V = t) (h0 : 0 ≤ t) (h1 : t < σ.I 18 7) (hw : isWt σ t)
    (e1 : τ.I 33 = σ.I 33) (e0 : τ.I 26 = σ.I 26) (e2 : τ.I 20 = σ.I 20) (e3 : τ.I 16 = σ.I 16) (e4 : τ.I 18 7 = σ.I 18 7)
    (eh : τ.I 22 = fun i => if i = t ∧ σ.I 23 t < 0 then V else σ.I 22 i)
    (et : τ.I 23 = fun i => if i = t then V else σ.I 23 i)
    (en : τ.I 34 = fun i => if 0 ≤ σ.I 23 t ∧ i = σ.I 23 t then V else if i = V then -1 else σ.I 34 i) : PW τ (V + 1) := by
  have eq : wkQ τ = wkQ σ := by funext s k; unfold wkQ; rw [e1, e0, e3]
  have ew : isWt τ = isWt σ := by funext s; unfold isWt; rw [e2, e3]
  have hqt : wkQ σ t V := ⟨hv, ht⟩
  obtain ⟨hh, htl⟩ := h.1 t h0 h1 hw
  have hin := ls_in (wkQ σ t) V
  refine ⟨fun s s0 s1 sw => ?_, fun k k0 k1 kw => ?_⟩
  · rw [eq, eh, et]
    rw [ew] at sw; rw [e4] at s1
    obtain ⟨a, b⟩ := h.1 s s0 s1 sw
    have hx := fsF_x (wkQ σ s) 0 V (V + 1) (by omega) hV rfl
    have hl := ls_fs (wkQ σ s) V
    by_cases hs : s = t
    · subst hs
      rw [hx, if_pos (zb_t hqt), ls_t _ V _ hV rfl hqt]
      refine ⟨?_, if_pos rfl⟩
      show (if s = s ∧ σ.I 23 s < 0 then V else σ.I 22 s) = _
      by_cases z : fsF (wkQ σ s) 0 V = -1
      · rw [if_pos z, if_pos ⟨rfl, by rw [htl, hl.mpr z]; omega⟩]
      · rw [if_neg z, if_neg (fun y => z (hl.mp (by omega))), a]
    · have hn : ¬ wkQ σ s V := fun y => hs (y.2.symm.trans ht)
      have hz : ¬ zb (wkQ σ s V) = 1 := by rw [zb_f hn]; omega
      rw [hx, if_neg hz, ls_f _ V _ hV rfl hn]
      refine ⟨?_, ?_⟩
      · show (if s = t ∧ σ.I 23 t < 0 then V else σ.I 22 s) = _
        rw [if_neg (fun y => hs y.1), a]
        by_cases z : fsF (wkQ σ s) 0 V = -1
        · rw [if_pos z, z]
        · rw [if_neg z]
      · show (if s = t then V else σ.I 23 s) = _
        rw [if_neg hs, b]
  · rw [eq, en, e1]
    rw [e3, e0] at kw
    show (if 0 ≤ σ.I 23 t ∧ k = σ.I 23 t then V else if k = V then -1 else σ.I 34 k) = _
    by_cases hk : k = V
    · subst hk
      rw [if_neg (by omega), if_pos rfl, fsF_e _ _ _ (by omega)]
    · have hb := h.2 k k0 (by omega) kw
      have hx := fsF_x (wkQ σ (σ.I 33 k)) (k + 1) V (V + 1) (by omega) (by omega) rfl
      by_cases hs : σ.I 33 k = t
      · have hl := fsF_ls (wkQ σ t) k V k0 (by omega) ⟨kw, hs⟩
        rw [hs] at hb hx ⊢
        rw [hx, if_pos (zb_t hqt)]
        by_cases z : fsF (wkQ σ t) (k + 1) V = -1
        · rw [if_pos z, if_pos ⟨by rw [htl, hl.mp z]; exact k0, by rw [htl, hl.mp z]⟩]
        · rw [if_neg z, if_neg (fun y => z (hl.mpr (by omega))), if_neg hk, hb]
      · have hn : ¬ wkQ σ (σ.I 33 k) V := fun y => hs (y.2.symm.trans ht)
        have hz : ¬ zb (wkQ σ (σ.I 33 k) V) = 1 := by rw [zb_f hn]; omega
        rw [hx, if_neg hz]
        have ne : ¬ (0 ≤ σ.I 23 t ∧ k = σ.I 23 t) := by
          rintro ⟨y1, y2⟩
          rcases hin with z | ⟨z1, z2, z3⟩
          · omega
          · rw [← htl, ← y2] at z3; exact hs z3.2
        rw [if_neg ne, if_neg hk, hb]
        by_cases z : fsF (wkQ σ (σ.I 33 k)) (k + 1) V = -1
        · rw [if_pos z, z]
        · rw [if_neg z]
theorem PW_skip {σ : Sto} {V : Int} (h : PW σ V) (hV : 0 ≤ V) (hv : ¬ σ.I 16 (σ.I 26 V) = 1) : PW σ (V + 1) := by
  have hn : ∀ s, ¬ wkQ σ s V := fun s y => hv y.1
  refine ⟨fun s s0 s1 sw => ?_, fun k k0 k1 kw => ?_⟩
  · obtain ⟨a, b⟩ := h.1 s s0 s1 sw
    have hz : ¬ zb (wkQ σ s V) = 1 := by rw [zb_f (hn s)]; omega
    rw [fsF_x (wkQ σ s) 0 V (V + 1) (by omega) hV rfl, if_neg hz, ls_f _ V _ hV rfl (hn s), a]
    refine ⟨?_, b⟩
    by_cases z : fsF (wkQ σ s) 0 V = -1
    · rw [if_pos z, z]
    · rw [if_neg z]
  · by_cases hk : k = V
    · subst hk; exact absurd kw hv
    · have hb := h.2 k k0 (by omega) kw
      have hz : ¬ zb (wkQ σ (σ.I 33 k) V) = 1 := by rw [zb_f (hn _)]; omega
      rw [fsF_x _ (k + 1) V (V + 1) (by omega) (by omega) rfl, if_neg hz, hb]
      by_cases z : fsF (wkQ σ (σ.I 33 k)) (k + 1) V = -1
      · rw [if_pos z, z]
      · rw [if_neg z]
theorem PT_fr {σ τ : Sto} {K : Int} (h : PT σ K) (e1 : τ.I 36 = σ.I 36) (e2 : τ.I 20 = σ.I 20) (e3 : τ.I 16 = σ.I 16) (e4 : τ.I 18 7 = σ.I 18 7) (e5 : τ.I 37 = σ.I 37)
    (eh : ∀ s, ¬ isWt σ s → τ.I 22 s = σ.I 22 s ∧ τ.I 23 s = σ.I 23 s) : PT τ K := by
  have eq : tkQ τ = tkQ σ := by funext s k; unfold tkQ; rw [e1]
  have ew : isWt τ = isWt σ := by funext s; unfold isWt; rw [e2, e3]
  refine ⟨fun s s0 s1 sw => ?_, fun k k0 k1 => ?_⟩
  · rw [ew] at sw; rw [e4] at s1
    rw [eq, (eh s sw).1, (eh s sw).2]; exact h.1 s s0 s1 sw
  · rw [eq, e5, e1]; exact h.2 k k0 k1
theorem PW_fr {σ τ : Sto} {V : Int} (h : PW σ V) (e1 : τ.I 33 = σ.I 33) (e0 : τ.I 26 = σ.I 26) (e2 : τ.I 20 = σ.I 20) (e3 : τ.I 16 = σ.I 16) (e4 : τ.I 18 7 = σ.I 18 7) (e5 : τ.I 34 = σ.I 34)
    (eh : ∀ s, isWt σ s → τ.I 22 s = σ.I 22 s ∧ τ.I 23 s = σ.I 23 s) : PW τ V := by
  have eq : wkQ τ = wkQ σ := by funext s k; unfold wkQ; rw [e1, e0, e3]
  have ew : isWt τ = isWt σ := by funext s; unfold isWt; rw [e2, e3]
  refine ⟨fun s s0 s1 sw => ?_, fun k k0 k1 kw => ?_⟩
  · rw [ew] at sw; rw [e4] at s1
    rw [eq, (eh s sw).1, (eh s sw).2]; exact h.1 s s0 s1 sw
  · rw [e3, e0] at kw
    rw [eq, e5, e1]; exact h.2 k k0 k1 kw
theorem PT_tl {σ : Sto} {K t : Int} (h : PT σ K) (hK : K ≤ 24000) (h0 : 0 ≤ t) (h1 : t < σ.I 18 7) (hw : ¬ isWt σ t) : σ.I 23 t = -1 ∨ (0 ≤ σ.I 23 t ∧ σ.I 23 t < 24000) := by
  rw [(h.1 t h0 h1 hw).2]; have := ls_in (tkQ σ t) K; omega
theorem PW_tl {σ : Sto} {V t : Int} (h : PW σ V) (hV : V ≤ 6000) (h0 : 0 ≤ t) (h1 : t < σ.I 18 7) (hw : isWt σ t) : σ.I 23 t = -1 ∨ (0 ≤ σ.I 23 t ∧ σ.I 23 t < 6000) := by
  rw [(h.1 t h0 h1 hw).2]; have := ls_in (wkQ σ t) V; omega
/-- tokens from a on below b have terms of TEXT fields -/
def TKB (σ : Sto) (a b : Int) : Prop := ∀ k, a ≤ k → k < b → 0 ≤ σ.I 36 k ∧ σ.I 36 k < σ.I 18 7 ∧ ¬ isWt σ (σ.I 36 k)
theorem TKB_at {σ : Sto} {a b k : Int} (h : TKB σ a b) (h0 : a ≤ k) (h1 : k < b) : (σ.I 36 k = 0 ∨ 0 < σ.I 36 k) ∧ σ.I 36 k < σ.I 18 7 ∧ ¬ isWt σ (σ.I 36 k) := by have := h k h0 h1; exact ⟨by omega, this.2⟩
theorem sp_X0_link {E : XE} {d : Nat} {σ : Sto} {x1 : Int} {x2 : Int} (hd : 1 ≤ d) (hL : Lay σ)  (p0 : 0 ≤ x1 ∧ x1 < 6000) (p1 : 0 ≤ x2 ∧ x2 < 600) (p2 : PT σ (σ.I 31 x1)) (p3 : PW σ x1) (p4 : 0 ≤ σ.I 31 x1 ∧ 0 ≤ σ.I 32 x1) (p5 : (σ.I 31 x1 + σ.I 32 x1) ≤ 24000) (p6 : 0 ≤ σ.I 26 x1 ∧ σ.I 26 x1 < 12) (p7 : σ.I 16 (σ.I 26 x1) = 1 → 0 ≤ σ.I 33 x1 ∧ σ.I 33 x1 < σ.I 18 7 ∧ isWt σ (σ.I 33 x1)) (p8 : TKB σ (σ.I 31 x1) (σ.I 31 x1 + σ.I 32 x1)) (p9 : 0 ≤ σ.I 18 7 ∧ σ.I 18 7 < 36500) : CC E mX0_link d [aO 0, aI (x1), aI (x2)] σ (RV (fun τ => (RD σ τ (fun c i => if c = 22 ∨ c = 23 ∨ c = 37 ∨ c = 34 then τ.I c i else if at2 c i 27 x1 then x2 else σ.I c i)) ∧ (PT τ (σ.I 31 x1 + σ.I 32 x1)) ∧ (PW τ (x1 + 1)))) := by sorry
end
section
/-! contracts: printed by tools/mk.py out of s32_enter.py -/
set_option maxRecDepth 100000
set_option maxHeartbeats 1500000
/-- where the tokens of value v begin, or would -/
def tkAt (σ : Sto) (v : Int) : Int := if v < σ.I 0 20 then σ.I 31 v else σ.I 0 29
/-- value v is laid well: its tokens and terms -/
def VL1 (σ : Sto) (v : Int) : Prop := (0 ≤ σ.I 31 v ∧ 0 ≤ σ.I 32 v ∧ σ.I 32 v ≤ 250 ∧ σ.I 31 v + σ.I 32 v = tkAt σ (v + 1) ∧ tkAt σ (v + 1) ≤ 24000) ∧ (0 ≤ σ.I 26 v ∧ σ.I 26 v < σ.I 0 9) ∧
  (σ.I 16 (σ.I 26 v) = 1 → 0 ≤ σ.I 33 v ∧ σ.I 33 v < σ.I 18 7 ∧ isWt σ (σ.I 33 v)) ∧ TKB σ (σ.I 31 v) (σ.I 31 v + σ.I 32 v)
def VL (σ : Sto) (a b : Int) : Prop := ∀ v, a ≤ v → v < b → VL1 σ v
theorem TKB_eq {σ τ : Sto} {a b : Int} (h : TKB σ a b) (e1 : τ.I 36 = σ.I 36) (e2 : τ.I 20 = σ.I 20) (e3 : τ.I 16 = σ.I 16) (e4 : τ.I 18 7 = σ.I 18 7) : TKB τ a b := by
  have ew : isWt τ = isWt σ := by funext s; unfold isWt; rw [e2, e3]
  unfold TKB; rw [e1, e4, ew]; exact h
theorem sp_X0_enter {E : XE} {d : Nat} {σ : Sto} {x1 : Int} {x2 : Int} (hd : 2 ≤ d) (hL : Lay σ)  (p0 : 0 ≤ x1 ∧ x1 < 600) (p1 : -1 ≤ x2 ∧ x2 < 600) (p2 : 0 ≤ σ.I 0 31 ∧ σ.I 0 31 ≤ σ.I 0 20) (p3 : σ.I 0 20 ≤ 6000) (p4 : 0 ≤ σ.I 0 41 ∧ σ.I 0 41 ≤ 1000000) (p5 : PT σ (tkAt σ (σ.I 0 31))) (p6 : PW σ (σ.I 0 31)) (p7 : VL σ (σ.I 0 31) (σ.I 0 20)) (p8 : 0 ≤ σ.I 18 7 ∧ σ.I 18 7 < 36500) (p9 : 0 ≤ σ.I 0 9 ∧ σ.I 0 9 ≤ 12) : CC E mX0_enter d [aO 0, aI (x1), aI (x2)] σ (RV (fun τ => (RD σ τ (fun c i => if c = 22 ∨ c = 23 ∨ c = 37 ∨ c = 34 then τ.I c i else if at2 c i 42 x1 then σ.I 0 31 else if at2 c i 43 x1 then σ.I 0 20 - σ.I 0 31 else if at2 c i 44 x1 then x2 else if at2 c i 45 x1 then σ.I 0 41 + 1 else if at2 c i 46 x1 then 2147483647 else if at2 c i 47 x1 then 1 else if rg c i 27 (σ.I 0 31) (σ.I 0 20) then x1 else if at2 c i 0 31 then (σ.I 0 20) else if at2 c i 0 32 then σ.I 18 7 else σ.I c i)) ∧ (PT τ (σ.I 0 29)) ∧ (PW τ (σ.I 0 20)))) := by sorry
theorem sp_X0_add {E : XE} {d : Nat} {σ : Sto} {x1 : Int} (hd : 3 ≤ d) (hL : Lay σ)  (p0 : 0 ≤ σ.I 0 39 ∧ σ.I 0 39 ≤ 600) (p1 : tre σ 44 (σ.I 0 39)) (p2 : inR x1) (p3 : 0 ≤ σ.I 0 31 ∧ σ.I 0 31 ≤ σ.I 0 20) (p4 : σ.I 0 20 ≤ 6000) (p5 : 0 ≤ σ.I 0 41 ∧ σ.I 0 41 ≤ 1000000) (p6 : PT σ (tkAt σ (σ.I 0 31))) (p7 : PW σ (σ.I 0 31)) (p8 : VL σ (σ.I 0 31) (σ.I 0 20)) (p9 : 0 ≤ σ.I 18 7 ∧ σ.I 18 7 < 36500) (p10 : 0 ≤ σ.I 0 9 ∧ σ.I 0 9 ≤ 12) : CC E mX0_add d [aO 0, aI (x1)] σ (RVI (fun y τ => (y = if ¬ (x1 = -1 ∨ (0 ≤ x1 ∧ x1 < σ.I 0 39 ∧ σ.I 47 x1 = 1 ∧ σ.I 46 x1 = 2147483647)) then -1 else if (σ.I 0 39 = 600 ∨ 10 ≤ dp (σ.I 44) x1) then -3 else σ.I 0 39) ∧ (RD σ τ (fun c i => if ((x1 = -1 ∨ (0 ≤ x1 ∧ x1 < σ.I 0 39 ∧ σ.I 47 x1 = 1 ∧ σ.I 46 x1 = 2147483647)) ∧ ¬ (σ.I 0 39 = 600 ∨ 10 ≤ dp (σ.I 44) x1)) then (if c = 22 ∨ c = 23 ∨ c = 37 ∨ c = 34 then τ.I c i else if at2 c i 42 (σ.I 0 39) then σ.I 0 31 else if at2 c i 43 (σ.I 0 39) then σ.I 0 20 - σ.I 0 31 else if at2 c i 44 (σ.I 0 39) then x1 else if at2 c i 45 (σ.I 0 39) then σ.I 0 41 + 1 else if at2 c i 46 (σ.I 0 39) then 2147483647 else if at2 c i 47 (σ.I 0 39) then 1 else if rg c i 27 (σ.I 0 31) (σ.I 0 20) then (σ.I 0 39) else if at2 c i 0 31 then (σ.I 0 20) else if at2 c i 0 32 then σ.I 18 7 else if at2 c i 0 39 then σ.I 0 39 + 1 else σ.I c i) else σ.I c i)) ∧ (((x1 = -1 ∨ (0 ≤ x1 ∧ x1 < σ.I 0 39 ∧ σ.I 47 x1 = 1 ∧ σ.I 46 x1 = 2147483647)) ∧ ¬ (σ.I 0 39 = 600 ∨ 10 ≤ dp (σ.I 44) x1)) → PT τ (σ.I 0 29)) ∧ (((x1 = -1 ∨ (0 ≤ x1 ∧ x1 < σ.I 0 39 ∧ σ.I 47 x1 = 1 ∧ σ.I 46 x1 = 2147483647)) ∧ ¬ (σ.I 0 39 = 600 ∨ 10 ≤ dp (σ.I 44) x1)) → PW τ (σ.I 0 20)))) := by sorry
end
section
/-! contracts: printed by tools/mk.py out of s33_disc.py -/
set_option maxRecDepth 100000
set_option maxHeartbeats 1500000
def isWv (σ : Sto) (v : Int) : Prop := σ.I 16 (σ.I 26 v) = 1
def upF (A : Int → Int) (k v : Int) : Int → Int := fun i => if i = k then v else A i
/-- what is removed with an object: the row of its and others' ends, when those before k are looked at -/
def rmN (H P B : Int → Int) (g o : Int) (G : Int → Int) : Nat → Int → Int
  | 0 => upF G o (g + 1)
  | m + 1 => if H (o + 1 + m) = 1 ∧ rmN H P B g o G m (o + 1 + m) = 2147483647 ∧ 0 ≤ P (o + 1 + m) ∧ rmN H P B g o G m (P (o + 1 + m)) = g + 1 ∧ B (o + 1 + m) = 1 then upF (rmN H P B g o G m) (o + 1 + m) (g + 1) else rmN H P B g o G m
def rcN (H P B : Int → Int) (g o : Int) (G : Int → Int) : Nat → Int
  | 0 => 1
  | m + 1 => if H (o + 1 + m) = 1 ∧ rmN H P B g o G m (o + 1 + m) = 2147483647 ∧ 0 ≤ P (o + 1 + m) ∧ rmN H P B g o G m (P (o + 1 + m)) = g + 1 ∧ B (o + 1 + m) = 1 then rcN H P B g o G m + 1 else rcN H P B g o G m
def rm (H P B : Int → Int) (g o : Int) (G : Int → Int) (k : Int) : Int → Int := rmN H P B g o G (k - (o + 1)).toNat
def rc (H P B : Int → Int) (g o : Int) (G : Int → Int) (k : Int) : Int := rcN H P B g o G (k - (o + 1)).toNat
theorem rm_0 (H P B : Int → Int) (g o : Int) (G : Int → Int) (k i : Int) (h : k ≤ o + 1) : rm H P B g o G k i = if i = o then g + 1 else G i := by
  unfold rm
  have : (k - (o + 1)).toNat = 0 := by omega
  rw [this]; rfl
theorem rc_0 (H P B : Int → Int) (g o : Int) (G : Int → Int) (k : Int) (h : k ≤ o + 1) : rc H P B g o G k = 1 := by
  unfold rc
  have : (k - (o + 1)).toNat = 0 := by omega
  rw [this]; rfl
theorem rm_s (H P B : Int → Int) (g o : Int) (G : Int → Int) (k m i : Int) (h : o + 1 ≤ k) (hm : m = k + 1) : rm H P B g o G m i = if (H k = 1 ∧ rm H P B g o G k k = 2147483647 ∧ 0 ≤ P k ∧ rm H P B g o G k (P k) = g + 1 ∧ B k = 1) ∧ i = k then g + 1 else rm H P B g o G k i := by
  unfold rm
  have e : (m - (o + 1)).toNat = (k - (o + 1)).toNat + 1 := by omega
  have e2 : o + 1 + (((k - (o + 1)).toNat : Nat) : Int) = k := by omega
  rw [e]
  show (if H (o + 1 + (((k - (o + 1)).toNat : Nat) : Int)) = 1 ∧ rmN H P B g o G (k - (o + 1)).toNat (o + 1 + (((k - (o + 1)).toNat : Nat) : Int)) = 2147483647 ∧ 0 ≤ P (o + 1 + (((k - (o + 1)).toNat : Nat) : Int)) ∧ rmN H P B g o G (k - (o + 1)).toNat (P (o + 1 + (((k - (o + 1)).toNat : Nat) : Int))) = g + 1 ∧ B (o + 1 + (((k - (o + 1)).toNat : Nat) : Int)) = 1 then upF (rmN H P B g o G (k - (o + 1)).toNat) (o + 1 + (((k - (o + 1)).toNat : Nat) : Int)) (g + 1) else rmN H P B g o G (k - (o + 1)).toNat) i = _
  rw [e2]
  unfold upF
  split
  · next hc => by_cases hi : i = k
               · simp [hi, hc]
               · simp [hi]
  · next hc => simp [hc]
theorem rc_s (H P B : Int → Int) (g o : Int) (G : Int → Int) (k m : Int) (h : o + 1 ≤ k) (hm : m = k + 1) : rc H P B g o G m = if H k = 1 ∧ rm H P B g o G k k = 2147483647 ∧ 0 ≤ P k ∧ rm H P B g o G k (P k) = g + 1 ∧ B k = 1 then rc H P B g o G k + 1 else rc H P B g o G k := by
  unfold rc rm
  have e : (m - (o + 1)).toNat = (k - (o + 1)).toNat + 1 := by omega
  have e2 : o + 1 + (((k - (o + 1)).toNat : Nat) : Int) = k := by omega
  rw [e]
  show (if H (o + 1 + (((k - (o + 1)).toNat : Nat) : Int)) = 1 ∧ rmN H P B g o G (k - (o + 1)).toNat (o + 1 + (((k - (o + 1)).toNat : Nat) : Int)) = 2147483647 ∧ 0 ≤ P (o + 1 + (((k - (o + 1)).toNat : Nat) : Int)) ∧ rmN H P B g o G (k - (o + 1)).toNat (P (o + 1 + (((k - (o + 1)).toNat : Nat) : Int))) = g + 1 ∧ B (o + 1 + (((k - (o + 1)).toNat : Nat) : Int)) = 1 then rcN H P B g o G (k - (o + 1)).toNat + 1 else rcN H P B g o G (k - (o + 1)).toNat) = _
  rw [e2]
theorem sp_X0_remove {E : XE} {d : Nat} {σ : Sto} {x1 : Int} (hd : 3 ≤ d) (hL : Lay σ)  (p0 : 0 ≤ σ.I 0 39 ∧ σ.I 0 39 ≤ 600) (p1 : tre σ 44 (σ.I 0 39)) (p2 : inR x1) (p3 : 0 ≤ σ.I 0 41 ∧ σ.I 0 41 ≤ 1000000) : CC E mX0_remove d [aO 0, aI (x1)] σ (RVI (fun y τ => (y = if (0 ≤ x1 ∧ x1 < σ.I 0 39 ∧ σ.I 47 x1 = 1 ∧ σ.I 46 x1 = 2147483647) then rc (σ.I 47) (σ.I 44) (fun _ => 1) (σ.I 0 41) x1 (σ.I 46) (σ.I 0 39) else -1) ∧ (RD σ τ (fun c i => if (0 ≤ x1 ∧ x1 < σ.I 0 39 ∧ σ.I 47 x1 = 1 ∧ σ.I 46 x1 = 2147483647) then (if c = 46 then rm (σ.I 47) (σ.I 44) (fun _ => 1) (σ.I 0 41) x1 (σ.I 46) (σ.I 0 39) i else σ.I c i) else σ.I c i)))) := by sorry
/-- going up from o ends at top -/
def blN (P : Int → Int) (top : Int) : Nat → Int → Prop
  | 0, o => o = top
  | f + 1, o => if o ≤ top then o = top else blN P top f (P o)
def bl (P : Int → Int) (top o : Int) : Prop := blN P top (o + 1).toNat o
theorem blN_e (P : Int → Int) (top : Int) : ∀ (f : Nat) (o : Int), o ≤ top → (blN P top f o ↔ o = top) := by
  intro f o h
  cases f with
  | zero => exact Iff.rfl
  | succ f => show (if o ≤ top then o = top else _) ↔ _; rw [if_pos h]
theorem bl_0 (P : Int → Int) (top o : Int) (h : o ≤ top) : bl P top o ↔ o = top := blN_e P top _ o h
theorem blN_cg {P : Int → Int} {top n : Int} (ht : 0 ≤ top) (hP : ∀ k, 0 ≤ k → k < n → P k < k) : ∀ (f g : Nat) (o : Int), o < n → o < f → o < g → (blN P top f o ↔ blN P top g o) := by
  intro f
  induction f with
  | zero => intro g o hn hf hg; rw [blN_e P top 0 o (by omega), blN_e P top g o (by omega)]
  | succ f ih =>
    intro g o hn hf hg
    by_cases h : o ≤ top
    · rw [blN_e P top _ o h, blN_e P top g o h]
    · cases g with
      | zero => omega
      | succ g =>
        show (if o ≤ top then o = top else blN P top f (P o)) ↔ (if o ≤ top then o = top else blN P top g (P o))
        rw [if_neg h, if_neg h]
        have := hP o (by omega) hn
        exact ih g (P o) (by omega) (by omega) (by omega)
theorem trH_bl {σ : Sto} {n top o : Int} (h : trH σ n) (ht : 0 ≤ top) (h0 : top < o) (h1 : o < n) (hh : σ.I 594 o = 1) : bl (pH σ) top o ↔ bl (pH σ) top (σ.I 591 o) := by
  have hP : ∀ k, 0 ≤ k → k < n → pH σ k < k := fun k q1 q2 => (h k q1 q2).2.1
  rw [← pH_h hh]
  unfold bl
  have e : (o + 1).toNat = o.toNat + 1 := by omega
  have := hP o (by omega) h1
  rw [e]
  show (if o ≤ top then o = top else blN (pH σ) top o.toNat (pH σ o)) ↔ _
  rw [if_neg (by omega)]
  exact blN_cg ht hP _ _ _ (by omega) (by omega) (by omega)
theorem sp_X9_isBelow {E : XE} {d : Nat} {σ : Sto} {x1 : Int} {x2 : Int} (hd : 1 ≤ d) (hL : Lay σ)  (p0 : 0 ≤ σ.I 555 52 ∧ σ.I 555 52 ≤ 600) (p1 : trH σ (σ.I 555 52)) (p2 : 0 ≤ x1 ∧ x1 < σ.I 555 52) (p3 : 0 ≤ x2 ∧ x2 < 600) (p4 : σ.I 594 x1 = 1) : CC E mX9_isBelow d [aO 555, aI (x1), aI (x2)] σ (RZ σ (bl (pH σ) x2 x1)) := by sorry
theorem sp_X9_remove {E : XE} {d : Nat} {σ : Sto} {x1 : Int} (hd : 3 ≤ d) (hL : Lay σ)  (p0 : 0 ≤ σ.I 555 52 ∧ σ.I 555 52 ≤ 600) (p1 : trH σ (σ.I 555 52)) (p2 : inR x1) (p3 : 0 ≤ σ.I 555 54 ∧ σ.I 555 54 ≤ 1000000) : CC E mX9_remove d [aO 555, aI (x1)] σ (RVI (fun y τ => (y = if (0 ≤ x1 ∧ x1 < σ.I 555 52 ∧ σ.I 594 x1 = 1 ∧ σ.I 593 x1 = 2147483647) then rc (σ.I 594) (σ.I 591) (fun k => zb (bl (pH σ) x1 k)) (σ.I 555 54) x1 (σ.I 593) (σ.I 555 52) else -1) ∧ (RD σ τ (fun c i => if (0 ≤ x1 ∧ x1 < σ.I 555 52 ∧ σ.I 594 x1 = 1 ∧ σ.I 593 x1 = 2147483647) then (if c = 593 then rm (σ.I 594) (σ.I 591) (fun k => zb (bl (pH σ) x1 k)) (σ.I 555 54) x1 (σ.I 593) (σ.I 555 52) i else σ.I c i) else σ.I c i)))) := by sorry
end
section
/-! contracts: printed by tools/mk.py out of s34_quest.py -/
set_option maxRecDepth 100000
set_option maxHeartbeats 1500000
theorem TC_eq {σ τ : Sto} (h : TC σ) (h1 : τ.I 19 = σ.I 19) (h2 : τ.I 20 = σ.I 20) (h3 : τ.I 21 = σ.I 21) (h4 : τ.I 24 = σ.I 24) (h5 : τ.I 25 = σ.I 25) (h6 : τ.I 18 7 = σ.I 18 7) : TC τ := by
  have e := hT_eq h1 h2 h3
  unfold TC TC1 TC2
  rw [e, h4, h5, h6]; exact h
theorem kept_at {σ : Sto} {i : Int} (h : Lay σ) (h0 : 0 ≤ i) (h1 : i < 20) : σ.R 79 i = some (275 + 14 * i.toNat) ∧ At3 σ (275 + 14 * i.toNat) := by
  have hi : i = 0 ∨ i = 1 ∨ i = 2 ∨ i = 3 ∨ i = 4 ∨ i = 5 ∨ i = 6 ∨ i = 7 ∨ i = 8 ∨ i = 9 ∨ i = 10 ∨ i = 11 ∨ i = 12 ∨ i = 13 ∨ i = 14 ∨ i = 15 ∨ i = 16 ∨ i = 17 ∨ i = 18 ∨ i = 19 := by omega
  rcases hi with hi | hi | hi | hi | hi | hi | hi | hi | hi | hi | hi | hi | hi | hi | hi | hi | hi | hi | hi | hi <;> subst hi
  · exact ⟨r_79_0 h, lat_275 h⟩
  · exact ⟨r_79_1 h, lat_289 h⟩
  · exact ⟨r_79_2 h, lat_303 h⟩
  · exact ⟨r_79_3 h, lat_317 h⟩
  · exact ⟨r_79_4 h, lat_331 h⟩
  · exact ⟨r_79_5 h, lat_345 h⟩
  · exact ⟨r_79_6 h, lat_359 h⟩
  · exact ⟨r_79_7 h, lat_373 h⟩
  · exact ⟨r_79_8 h, lat_387 h⟩
  · exact ⟨r_79_9 h, lat_401 h⟩
  · exact ⟨r_79_10 h, lat_415 h⟩
  · exact ⟨r_79_11 h, lat_429 h⟩
  · exact ⟨r_79_12 h, lat_443 h⟩
  · exact ⟨r_79_13 h, lat_457 h⟩
  · exact ⟨r_79_14 h, lat_471 h⟩
  · exact ⟨r_79_15 h, lat_485 h⟩
  · exact ⟨r_79_16 h, lat_499 h⟩
  · exact ⟨r_79_17 h, lat_513 h⟩
  · exact ⟨r_79_18 h, lat_527 h⟩
  · exact ⟨r_79_19 h, lat_541 h⟩
theorem user_at {σ : Sto} {i : Int} (h : Lay σ) (h0 : 0 ≤ i) (h1 : i < 4) : σ.R 50 i = some (215 + 15 * i.toNat) ∧ At8 σ (215 + 15 * i.toNat) := by
  have hi : i = 0 ∨ i = 1 ∨ i = 2 ∨ i = 3 := by omega
  rcases hi with hi | hi | hi | hi <;> subst hi
  · exact ⟨r_50_0 h, lat_215 h⟩
  · exact ⟨r_50_1 h, lat_230 h⟩
  · exact ⟨r_50_2 h, lat_245 h⟩
  · exact ⟨r_50_3 h, lat_260 h⟩
theorem sp_X0_discard {E : XE} {d : Nat} {σ : Sto}  (hd : 3 ≤ d) (hL : Lay σ)  (p0 : 0 ≤ σ.I 0 31 ∧ σ.I 0 31 ≤ σ.I 0 20) (p1 : σ.I 0 20 ≤ 6000) (p2 : 0 ≤ σ.I 0 30 ∧ σ.I 0 30 ≤ 24000) (p3 : VFB σ (σ.I 0 20)) (p4 : 0 ≤ σ.I 0 9 ∧ σ.I 0 9 ≤ 12) (p5 : TC σ) (p6 : 0 ≤ σ.I 18 7 ∧ σ.I 18 7 < 36500) (p7 : bd_0_20 σ 21 36500) (p8 : bd_0_12 σ 20 36500) (p9 : 0 ≤ σ.I 0 32 ∧ σ.I 0 32 ≤ 36500) : CC E mX0_discard d [aO 0] σ (RVI (fun y τ => (y = σ.I 0 20 - σ.I 0 31) ∧ (RD σ τ (fun c i => if at2 c i 0 30 then σ.I 0 30 - cn (fun j => isWv σ (σ.I 0 31 + j)) (σ.I 0 20 - σ.I 0 31) else if at2 c i 18 7 then (if σ.I 0 32 < σ.I 18 7 then σ.I 0 32 else σ.I 18 7) else if rg c i 25 0 8192 then ls (fun t => hT σ t = i) (if σ.I 0 32 < σ.I 18 7 then σ.I 0 32 else σ.I 18 7) else if σ.I 0 31 < σ.I 0 20 then (if at2 c i 0 22 then σ.I 28 (σ.I 0 31) else if at2 c i 0 29 then σ.I 31 (σ.I 0 31) else if at2 c i 0 20 then σ.I 0 31 else σ.I c i) else σ.I c i)) ∧ (TC τ))) := by sorry
end
section
/-! contracts: printed by tools/mk.py out of s35_log.py -/
set_option maxRecDepth 100000
set_option maxHeartbeats 1500000
theorem pw_in (e : Int) (h0 : 0 ≤ e) (h1 : e ≤ 21) : 1 ≤ (2 ^ e.toNat : Nat) ∧ (2 ^ e.toNat : Nat) ≤ 2097152 := by
  refine ⟨Nat.two_pow_pos _, ?_⟩
  have : 2 ^ e.toNat ≤ 2 ^ 21 := Nat.pow_le_pow_right (by omega) (by omega)
  exact this
theorem shl_v {q e : Int} (h1 : 1 ≤ q) (h2 : q ≤ 100000) (h3 : 0 ≤ e) (h4 : e ≤ 21) : b64shl q e = q * (2 ^ e.toNat : Nat) ∧ q ≤ b64shl q e ∧ b64shl q e ≤ 209715200000 := by
  obtain ⟨a, b⟩ := pw_in e h3 h4
  have hm : e % 64 = e := by omega
  have c1 : q * (2 ^ e.toNat : Nat) ≤ 100000 * 2097152 := Int.mul_le_mul h2 (by omega) (by omega) (by omega)
  have c2 : q * 1 ≤ q * (2 ^ e.toNat : Nat) := Int.mul_le_mul_of_nonneg_left (by omega) (by omega)
  have e1 : b64shl q e = q * (2 ^ e.toNat : Nat) := by rw [shl64 ⟨by omega, by omega⟩, hm, w64_id ⟨by omega, by omega⟩]
  exact ⟨e1, by omega, by omega⟩
theorem shl_s {q e m : Int} (h1 : 1 ≤ q) (h2 : q ≤ 100000) (h3 : 0 ≤ e) (h4 : e ≤ 20) (hm : m = e + 1) : b64shl q m = 2 * b64shl q e := by
  rw [(shl_v h1 h2 h3 (by omega)).1, (shl_v (e := m) h1 h2 (by omega) (by omega)).1]
  have : m.toNat = e.toNat + 1 := by omega
  rw [this, Nat.pow_succ]
  push_cast
  rw [← Int.mul_assoc]; omega
theorem lg_b {q e : Int} (h1 : 1 ≤ q) (h2 : q ≤ 100000) (h3 : 0 ≤ e) (h4 : e ≤ 21) (h : b64shl q e ≤ 100000) : e ≤ 16 := by
  by_cases z : e ≤ 16
  · exact z
  · have h5 := (shl_v h1 h2 h3 h4).1
    have h6 : 2 ^ 17 ≤ 2 ^ e.toNat := Nat.pow_le_pow_right (by omega) (by omega)
    have h7 : 1 * ((2 ^ e.toNat : Nat) : Int) ≤ q * (2 ^ e.toNat : Nat) := Int.mul_le_mul_of_nonneg_right h1 (by omega)
    omega
/-- the exponent -/
def lgN (p q : Int) : Nat → Int → Int
  | 0, e => e
  | f + 1, e => if b64shl q (e + 1) ≤ p then lgN p q f (e + 1) else e
def lg (p q e : Int) : Int := lgN p q (20 - e).toNat e
theorem lg_t (p q e m : Int) (h : e < 20) (hm : m = e + 1) (hq : b64shl q m ≤ p) : lg p q e = lg p q m := by
  subst hm
  unfold lg
  have e1 : (20 - e).toNat = (20 - (e + 1)).toNat + 1 := by omega
  rw [e1]
  show (if b64shl q (e + 1) ≤ p then lgN p q (20 - (e + 1)).toNat (e + 1) else e) = _
  rw [if_pos hq]
theorem lg_f (p q e m : Int) (h : e < 20) (hm : m = e + 1) (hq : ¬ b64shl q m ≤ p) : lg p q e = e := by
  subst hm
  unfold lg
  have e1 : (20 - e).toNat = (20 - (e + 1)).toNat + 1 := by omega
  rw [e1]
  show (if b64shl q (e + 1) ≤ p then lgN p q (20 - (e + 1)).toNat (e + 1) else e) = _
  rw [if_neg hq]
def lgMN (m : Int) : Nat → Int
  | 0 => m
  | k + 1 => if 2147483648 ≤ b64shr (lgMN m k * lgMN m k) 30 then b64shr (b64shr (lgMN m k * lgMN m k) 30) 1 else b64shr (lgMN m k * lgMN m k) 30
def lgAN (m e : Int) : Nat → Int
  | 0 => e
  | k + 1 => if 2147483648 ≤ b64shr (lgMN m k * lgMN m k) 30 then 2 * lgAN m e k + 1 else 2 * lgAN m e k
def lgM (m k : Int) : Int := lgMN m k.toNat
def lgA (m e k : Int) : Int := lgAN m e k.toNat
theorem shr30 {x : Int} (h0 : 0 ≤ x) (h1 : x < 4611686018427387904) : b64shr x 30 = x / 1073741824 := by
  rw [shr64 ⟨by omega, by omega⟩ ⟨by decide, by decide⟩]; rfl
theorem shr1 {x : Int} (h0 : 0 ≤ x) (h1 : x < 4611686018427387904) : b64shr x 1 = x / 2 := by
  rw [shr64 ⟨by omega, by omega⟩ ⟨by decide, by decide⟩]; rfl
theorem shr0 {x : Int} (h0 : 0 ≤ x) (h1 : x < 4611686018427387904) : b64shr x 0 = x := by
  rw [shr64 ⟨by omega, by omega⟩ ⟨by decide, by decide⟩]
  show x / 1 = x
  omega
theorem sq_in {m : Int} (h0 : 0 ≤ m) (h1 : m < 2147483648) : 0 ≤ m * m ∧ m * m < 4611686018427387904 ∧ 0 ≤ b64shr (m * m) 30 ∧ b64shr (m * m) 30 < 4294967296 := by
  have a : 0 ≤ m * m := Int.mul_nonneg h0 h0
  have b : m * m ≤ 2147483647 * 2147483647 := Int.mul_le_mul (by omega) (by omega) h0 (by omega)
  have c : m * m < 4611686018427387904 := by omega
  rw [shr30 a c]
  omega
theorem lgMN_in {m : Int} (h0 : 0 ≤ m) (h1 : m < 2147483648) : ∀ k : Nat, 0 ≤ lgMN m k ∧ lgMN m k < 2147483648 := by
  intro k
  induction k with
  | zero => exact ⟨h0, h1⟩
  | succ k ih =>
    obtain ⟨a, b, c, d⟩ := sq_in ih.1 ih.2
    show 0 ≤ (if 2147483648 ≤ b64shr (lgMN m k * lgMN m k) 30 then b64shr (b64shr (lgMN m k * lgMN m k) 30) 1 else b64shr (lgMN m k * lgMN m k) 30) ∧ (if 2147483648 ≤ b64shr (lgMN m k * lgMN m k) 30 then b64shr (b64shr (lgMN m k * lgMN m k) 30) 1 else b64shr (lgMN m k * lgMN m k) 30) < _
    by_cases z : 2147483648 ≤ b64shr (lgMN m k * lgMN m k) 30
    · rw [if_pos z, shr1 c (by omega)]; omega
    · rw [if_neg z]; omega
theorem lgAN_in {m e : Int} (h0 : 0 ≤ e) (h1 : e ≤ 16) : ∀ k : Nat, 0 ≤ lgAN m e k ∧ lgAN m e k + 1 ≤ 17 * (2 ^ k : Nat) := by
  intro k
  induction k with
  | zero => exact ⟨h0, by show e + 1 ≤ 17 * 1; omega⟩
  | succ k ih =>
    show 0 ≤ (if 2147483648 ≤ b64shr (lgMN m k * lgMN m k) 30 then 2 * lgAN m e k + 1 else 2 * lgAN m e k) ∧ (if 2147483648 ≤ b64shr (lgMN m k * lgMN m k) 30 then 2 * lgAN m e k + 1 else 2 * lgAN m e k) + 1 ≤ _
    rw [Nat.pow_succ]
    by_cases z : 2147483648 ≤ b64shr (lgMN m k * lgMN m k) 30
    · rw [if_pos z]; omega
    · rw [if_neg z]; omega
theorem lgA_in {m e k : Int} (h0 : 0 ≤ e) (h1 : e ≤ 16) (h2 : 0 ≤ k) (h3 : k ≤ 8) : lgA m e k = 0 ∨ (0 < lgA m e k ∧ lgA m e k ≤ 5000) := by
  have := lgAN_in (m := m) h0 h1 k.toNat
  have h4 : 2 ^ k.toNat ≤ 2 ^ 8 := Nat.pow_le_pow_right (by omega) (by omega)
  unfold lgA; omega
theorem lgM_in {m k : Int} (h0 : 0 ≤ m) (h1 : m < 2147483648) : lgM m k = 0 ∨ (0 < lgM m k ∧ lgM m k < 2147483648) := by
  have := lgMN_in h0 h1 k.toNat
  unfold lgM; omega
theorem lgM_0 (m k : Int) (h : k ≤ 0) : lgM m k = m := by
  unfold lgM
  have : k.toNat = 0 := by omega
  rw [this]; rfl
theorem lgA_0 (m e k : Int) (h : k ≤ 0) : lgA m e k = e := by
  unfold lgA
  have : k.toNat = 0 := by omega
  rw [this]; rfl
theorem lgM_s (m k n : Int) (h : 0 ≤ k) (hn : n = k + 1) : lgM m n = if 2147483648 ≤ b64shr (lgM m k * lgM m k) 30 then b64shr (b64shr (lgM m k * lgM m k) 30) 1 else b64shr (lgM m k * lgM m k) 30 := by
  unfold lgM
  have : n.toNat = k.toNat + 1 := by omega
  rw [this]; rfl
theorem lgA_s (m e k n : Int) (h : 0 ≤ k) (hn : n = k + 1) : lgA m e n = if 2147483648 ≤ b64shr (lgM m k * lgM m k) 30 then 2 * lgA m e k + 1 else 2 * lgA m e k := by
  unfold lgA lgM
  have : n.toNat = k.toNat + 1 := by omega
  rw [this]; rfl
/-- 256 times the logarithm of p / q -/
def lgR (p q : Int) : Int := lgA (td (b64shl p 30) (b64shl q (lg p q 0))) (lg p q 0) 8
theorem td_in {p Q : Int} (h0 : 0 ≤ p) (hp : p ≤ 100000) (h1 : 1 ≤ Q) (h2 : p < 2 * Q) (h3 : Q ≤ 209715200000) : (td (b64shl p 30) Q = 0 ∨ (0 < td (b64shl p 30) Q ∧ td (b64shl p 30) Q < 2147483648)) := by
  have e : b64shl p 30 = p * 1073741824 := by
    rw [shl64 ⟨by decide, by decide⟩]
    show w64 (p * 1073741824) = _
    exact w64_id ⟨by omega, by omega⟩
  unfold td
  rw [e, Int.tdiv_eq_ediv_of_nonneg (by omega)]
  have a : 0 ≤ p * 1073741824 / Q := Int.ediv_nonneg (by omega) (by omega)
  have b : p * 1073741824 / Q < 2147483648 := Int.ediv_lt_of_lt_mul (by omega) (by omega)
  omega
theorem shl30 {p : Int} (h0 : 0 ≤ p) (hp : p ≤ 100000) : b64shl p 30 = p * 1073741824 := by
  rw [shl64 ⟨by decide, by decide⟩]
  show w64 (p * 1073741824) = _
  exact w64_id ⟨by omega, by omega⟩
theorem shl0 {p : Int} (h0 : 0 ≤ p) (hp : p ≤ 100000) : b64shl p 0 = p := by
  rw [shl64 ⟨by decide, by decide⟩]
  show w64 (p * 1) = _
  rw [w64_id ⟨by omega, by omega⟩]; omega
theorem or1 {e : Int} (h0 : 0 ≤ e) (h1 : e ≤ 5000) : b32shl e 1 = 2 * e ∧ b32or (2 * e) 1 = 2 * e + 1 := by
  have e1 : b32shl e 1 = 2 * e := by
    rw [shl32]
    show w32 (e * 2) = _
    rw [w32_id ⟨by omega, by omega⟩]; omega
  refine ⟨e1, ?_⟩
  show (BitVec.ofInt 32 (2 * e) ||| BitVec.ofInt 32 1).toInt = 2 * e + 1
  have hx := bv_mod (2 * e) 32
  have e2 : (BitVec.ofInt 32 1).toNat = 1 := by decide
  have e3 : (BitVec.ofInt 32 (2 * e)).toNat = 2 ^ 1 * e.toNat := by omega
  have e4 : (BitVec.ofInt 32 (2 * e) ||| BitVec.ofInt 32 1).toNat = 2 ^ 1 * e.toNat + 1 := by
    rw [BitVec.toNat_or, e2, e3]; exact (Nat.two_pow_add_eq_or_of_lt (by omega) _).symm
  rw [BitVec.toInt_eq_toNat_of_lt (by rw [e4]; omega), e4]
  omega
theorem sp_X0_logarithm {E : XE} {d : Nat} {σ : Sto} {y0 : Int} {y2 : Int} (hd : 1 ≤ d) (hL : Lay σ)  (p0 : 1 ≤ y0 ∧ y0 ≤ 100000) (p1 : 1 ≤ y2 ∧ y2 < y0) : CC E mX0_logarithm d [aL (y0), aL (y2)] σ (RI σ (lgR y0 y2)) := by sorry
theorem sp_X9_idf {E : XE} {d : Nat} {σ : Sto} {y0 : Int} {y2 : Int} (hd : 1 ≤ d) (hL : Lay σ)  (p0 : 0 ≤ y0 ∧ y0 ≤ y2) (p1 : y2 ≤ 10000) : CC E mX9_idf d [aL (y0), aL (y2)] σ (RL σ (lgR (2 * y2 + 2) (2 * y0 + 1))) := by sorry
end
section
/-! contracts: printed by tools/mk.py out of s36_order.py -/
set_option maxRecDepth 100000
set_option maxHeartbeats 1500000
/-- the order of two rows of bytes, from place k on -/
def odN (A : Int → Int) (i n : Int) (B : Int → Int) (j m : Int) : Nat → Int → Int
  | 0, _ => n - m
  | f + 1, k => if A (i + k) % 256 = B (j + k) % 256 then odN A i n B j m f (k + 1) else A (i + k) % 256 - B (j + k) % 256
def od (A : Int → Int) (i n : Int) (B : Int → Int) (j m k : Int) : Int := odN A i n B j m (min n m - k).toNat k
theorem od_e (A : Int → Int) (i n : Int) (B : Int → Int) (j m k : Int) (h : n ≤ k ∨ m ≤ k) : od A i n B j m k = n - m := by
  unfold od
  have : (min n m - k).toNat = 0 := by omega
  rw [this]; rfl
theorem od_d (A : Int → Int) (i n : Int) (B : Int → Int) (j m k : Int) (h1 : k < n) (h2 : k < m) (hd : ¬ A (i + k) % 256 = B (j + k) % 256) : od A i n B j m k = A (i + k) % 256 - B (j + k) % 256 := by
  unfold od
  have : (min n m - k).toNat = (min n m - (k + 1)).toNat + 1 := by omega
  rw [this]
  show (if A (i + k) % 256 = B (j + k) % 256 then _ else _) = _
  rw [if_neg hd]
theorem od_s (A : Int → Int) (i n : Int) (B : Int → Int) (j m k l : Int) (h1 : k < n) (h2 : k < m) (hl : l = k + 1) (hd : A (i + k) % 256 = B (j + k) % 256) : od A i n B j m k = od A i n B j m l := by
  unfold od
  have : (min n m - k).toNat = (min n m - l).toNat + 1 := by omega
  rw [this]
  show (if A (i + k) % 256 = B (j + k) % 256 then odN A i n B j m (min n m - l).toNat (k + 1) else _) = _
  rw [if_pos hd, hl]
theorem od_in (A : Int → Int) (i n : Int) (B : Int → Int) (j m k : Int) (h1 : 0 ≤ n) (h2 : n ≤ 20) (h3 : 0 ≤ m) (h4 : m ≤ 20) : od A i n B j m k = 0 ∨ (-1000 < od A i n B j m k ∧ od A i n B j m k < 1000) := by
  have key : ∀ (f : Nat) (k : Int), -1000 < odN A i n B j m f k ∧ odN A i n B j m f k < 1000 := by
    intro f
    induction f with
    | zero => intro k; show -1000 < n - m ∧ n - m < 1000; omega
    | succ f ih =>
      intro k
      show -1000 < (if A (i + k) % 256 = B (j + k) % 256 then odN A i n B j m f (k + 1) else A (i + k) % 256 - B (j + k) % 256) ∧ (if A (i + k) % 256 = B (j + k) % 256 then odN A i n B j m f (k + 1) else A (i + k) % 256 - B (j + k) % 256) < 1000
      split
      · exact ih (k + 1)
      · omega
  have := key (min n m - k).toNat k
  unfold od; omega
/-- a root, from r on -/
def rtN (v : Int) : Nat → Int → Int
  | 0, r => r
  | f + 1, r => if (r + 1) * (r + 1) ≤ v then rtN v f (r + 1) else r
def rt (v r : Int) : Int := rtN v (1001 - r).toNat r
theorem rt_t (v r s : Int) (h : r < 1001) (hs : s = r + 1) (hq : s * s ≤ v) : rt v r = rt v s := by
  subst hs
  unfold rt
  have e1 : (1001 - r).toNat = (1001 - (r + 1)).toNat + 1 := by omega
  rw [e1]
  show (if (r + 1) * (r + 1) ≤ v then rtN v (1001 - (r + 1)).toNat (r + 1) else r) = _
  rw [if_pos hq]
theorem rt_f (v r s : Int) (h : r < 1001) (hs : s = r + 1) (hq : ¬ s * s ≤ v) : rt v r = r := by
  subst hs
  unfold rt
  have e1 : (1001 - r).toNat = (1001 - (r + 1)).toNat + 1 := by omega
  rw [e1]
  show (if (r + 1) * (r + 1) ≤ v then rtN v (1001 - (r + 1)).toNat (r + 1) else r) = _
  rw [if_neg hq]
theorem sq_le {a : Int} (h0 : 0 ≤ a) (h : a * a ≤ 1000000) : a ≤ 1000 := by
  by_cases z : a ≤ 1000
  · exact z
  · have := Int.mul_le_mul (show 1001 ≤ a by omega) (show 1001 ≤ a by omega) (by omega) h0
    omega
theorem sq_b {a : Int} (h0 : 0 ≤ a) (h : a ≤ 1001) : 0 ≤ a * a ∧ a * a ≤ 1002001 := ⟨Int.mul_nonneg h0 h0, Int.mul_le_mul h h h0 (by omega)⟩
/-- a product that goes no further than 10^15 -/
def prd (t s : Int) : Int := if td 1000000000000000 t < s then 1000000000000000 else t * s
theorem td_r {t : Int} (ht : 1 ≤ t) : 0 ≤ td 1000000000000000 t ∧ td 1000000000000000 t ≤ 1000000000000000 := by
  unfold td
  rw [Int.tdiv_eq_ediv_of_nonneg (by omega)]
  exact ⟨Int.ediv_nonneg (by omega) (by omega), Int.ediv_le_self _ (by omega)⟩
theorem prd_in {t s : Int} (ht : 1 ≤ t) (h0 : 0 ≤ s) : 0 ≤ prd t s ∧ prd t s ≤ 1000000000000000 ∧ (¬ td 1000000000000000 t < s → 0 ≤ t * s ∧ t * s ≤ 1000000000000000) := by
  have key : ¬ td 1000000000000000 t < s → 0 ≤ t * s ∧ t * s ≤ 1000000000000000 := by
    intro h
    unfold td at h
    rw [Int.tdiv_eq_ediv_of_nonneg (by omega)] at h
    have h2 : s ≤ 1000000000000000 / t := by omega
    have h3 := Int.mul_le_of_le_ediv (by omega) h2
    rw [Int.mul_comm] at h3
    exact ⟨Int.mul_nonneg (by omega) h0, h3⟩
  unfold prd
  by_cases z : td 1000000000000000 t < s
  · rw [if_pos z]; exact ⟨by omega, by omega, key⟩
  · rw [if_neg z]; exact ⟨(key z).1, (key z).2, key⟩
theorem sp_X9_order {E : XE} {d : Nat} {σ : Sto} {o0 : Nat} {n0 : Nat} {x1 : Int} {x2 : Int} {o3 : Nat} {n3 : Nat} {x4 : Int} {x5 : Int} (hd : 1 ≤ d) (hL : Lay σ) (ho0 : σ.sh o0 = (1, n0)) (ho3 : σ.sh o3 = (1, n3)) (p0 : 0 ≤ x1 ∧ 0 ≤ x4) (p1 : 0 ≤ x2 ∧ x2 ≤ 20) (p2 : 0 ≤ x5 ∧ x5 ≤ 20) (p3 : x1 + x2 ≤ n0 ∧ x4 + x5 ≤ n3) (p4 : (n0 : Int) ≤ 1000000 ∧ (n3 : Int) ≤ 1000000) : CC E mX9_order d [aO o0, aI (x1), aI (x2), aO o3, aI (x4), aI (x5)] σ (RI σ (od (σ.I o0) x1 x2 (σ.I o3) x4 x5 0)) := by sorry
theorem sp_X9_termOrder {E : XE} {d : Nat} {σ : Sto} {x1 : Int} {x2 : Int} (hd : 2 ≤ d) (hL : Lay σ)  (p0 : 0 ≤ x1 ∧ x1 < 24000) (p1 : 0 ≤ x2 ∧ x2 < 24000) (p2 : bd_0_20 σ 587 24000) : CC E mX9_termOrder d [aO 555, aI (x1), aI (x2)] σ (RI σ (od (σ.I 586) (20 * x1) (σ.I 587 x1) (σ.I 586) (20 * x2) (σ.I 587 x2) 0)) := by sorry
theorem sp_X2_order {E : XE} {d : Nat} {σ : Sto} {x1 : Int} {x2 : Int} (hd : 1 ≤ d) (hL : Lay σ)  (p0 : 0 ≤ x1 ∧ x1 < 36500) (p1 : 0 ≤ x2 ∧ x2 < 36500) (p2 : bd_0_20 σ 21 36500) : CC E mX2_order d [aO 18, aI (x1), aI (x2)] σ (RI σ (od (σ.I 19) (20 * x1) (σ.I 21 x1) (σ.I 19) (20 * x2) (σ.I 21 x2) 0)) := by sorry
theorem sp_X0_begins {E : XE} {d : Nat} {σ : Sto} {x1 : Int} {x2 : Int} (hd : 1 ≤ d) (hL : Lay σ)  (p0 : 0 ≤ x1 ∧ x1 < 36500) (p1 : 0 ≤ x2 ∧ x2 ≤ 30000) (p2 : bd_0_20 σ 21 36500) : CC E mX0_begins d [aO 0, aI (x1), aI (x2)] σ (RZ σ (x2 ≤ σ.I 21 x1 ∧ eqA (σ.I 19) (σ.I 1) (20 * x1) 0 x2)) := by sorry
theorem sp_X0_root {E : XE} {d : Nat} {σ : Sto} {y0 : Int} (hd : 1 ≤ d) (hL : Lay σ)  (p0 : 0 ≤ y0 ∧ y0 ≤ 1000000) : CC E mX0_root d [aL (y0)] σ (RI σ (rt y0 0)) := by sorry
theorem sp_X9_product {E : XE} {d : Nat} {σ : Sto} {y0 : Int} {y2 : Int} (hd : 1 ≤ d) (hL : Lay σ)  (p0 : 1 ≤ y0 ∧ y0 ≤ 1000000000000000) (p1 : 0 ≤ y2 ∧ y2 ≤ 9000000000000000000) : CC E mX9_product d [aL (y0), aL (y2)] σ (RL σ (prd y0 y2)) := by sorry
end
section
/-! contracts: printed by tools/mk.py out of s37_move.py -/
set_option maxRecDepth 100000
set_option maxHeartbeats 1500000
theorem sp_X9_moveTerm {E : XE} {d : Nat} {σ : Sto} {x1 : Int} {x2 : Int} (hd : 1 ≤ d) (hL : Lay σ)  (p0 : 0 ≤ x2 ∧ x2 ≤ x1 ∧ x1 < 24000) (p1 : bd_0_20 σ 587 24000) : CC E mX9_moveTerm d [aO 555, aI (x1), aI (x2)] σ (RV (fun τ => RD σ τ (fun c i => if at2 c i 587 x2 then σ.I 587 x1 else if rg c i 586 (20 * x2) (20 * x2 + σ.I 587 x1) then σ.I 586 (20 * x1 + (i - 20 * x2)) else if at2 c i 588 x2 then σ.I 588 x1 else if at2 c i 589 x2 then σ.I 589 x1 else if at2 c i 590 x2 then σ.I 590 x1 else σ.I c i))) := by sorry
theorem sp_X9_moveValue {E : XE} {d : Nat} {σ : Sto} {x1 : Int} {x2 : Int} {x3 : Int} (hd : 1 ≤ d) (hL : Lay σ)  (p0 : 0 ≤ x2 ∧ x2 ≤ x1 ∧ x1 < 6000) (p1 : 0 ≤ x3 ∧ x3 ≤ σ.I 580 x1) (p2 : 0 ≤ σ.I 581 x1 ∧ σ.I 580 x1 + σ.I 581 x1 ≤ 60000) : CC E mX9_moveValue d [aO 555, aI (x1), aI (x2), aI (x3)] σ (RV (fun τ => RD σ τ (fun c i => if at2 c i 579 x2 then σ.I 579 x1 else if at2 c i 581 x2 then σ.I 581 x1 else if at2 c i 583 x2 then σ.I 583 x1 else if rg c i 584 (4 * x2) (4 * x2 + 4) then σ.I 584 (4 * x1 + (i - 4 * x2)) else if rg c i 585 x3 (x3 + σ.I 581 x1) then σ.I 585 (σ.I 580 x1 + (i - x3)) else if at2 c i 580 x2 then x3 else σ.I c i))) := by sorry
theorem sp_X9_takeToken {E : XE} {d : Nat} {σ : Sto} {x1 : Int} {x2 : Int} {x3 : Int} {x4 : Int} (hd : 1 ≤ d) (hL : Lay σ)  (p0 : 0 ≤ x1 ∧ x1 < 300) (p1 : 0 ≤ σ.I 555 19 ∧ σ.I 555 19 < 300) (p2 : bd_0_20 σ 573 300) (p3 : inR x2) (p4 : inR x3) (p5 : inR x4) : CC E mX9_takeToken d [aO 555, aI (x1), aI (x2), aI (x3), aI (x4)] σ (RV (fun τ => RD σ τ (fun c i => if at2 c i 568 (σ.I 555 19) then σ.I 573 x1 else if rg c i 567 (20 * σ.I 555 19) (20 * σ.I 555 19 + σ.I 573 x1) then σ.I 572 (20 * x1 + (i - 20 * σ.I 555 19)) else if at2 c i 569 (σ.I 555 19) then x2 else if at2 c i 570 (σ.I 555 19) then x3 else if at2 c i 571 (σ.I 555 19) then x4 else if at2 c i 555 19 then σ.I 555 19 + 1 else σ.I c i))) := by sorry
theorem sp_X1_add {E : XE} {d : Nat} {σ : Sto} {o0 : Nat} {o1 : Nat} {n1 : Nat} {x2 : Int} {x3 : Int} {x4 : Int} {x5 : Int} {x6 : Int} (hd : 1 ≤ d) (hL : Lay σ) (ho0 : At1 σ o0) (ho1 : σ.sh o1 = (1, n1)) (p0 : o0 = 4 ∨ o0 = 10) (p1 : o1 < 4 ∨ 16 ≤ o1) (p2 : 0 ≤ σ.I o0 5 ∧ σ.I o0 5 ≤ 250) (p3 : 0 ≤ x2 ∧ 0 ≤ x3 ∧ x2 + min x3 20 ≤ n1) (p4 : inR x3) (p5 : inR x4) (p6 : inR x5) (p7 : inR x6) : CC E mX1_add d [aO o0, aO o1, aI (x2), aI (x3), aI (x4), aI (x5), aI (x6)] σ (RV (fun τ => RD σ τ (fun c i => if at2 c i o0 5 then σ.I o0 5 + 1 else if σ.I o0 5 < 250 then (if at2 c i (o0 + 2) (σ.I o0 5) then (min x3 20) else if rg c i (o0 + 1) (20 * σ.I o0 5) (20 * σ.I o0 5 + (min x3 20)) then σ.I o1 (x2 + (i - 20 * σ.I o0 5)) else if at2 c i (o0 + 3) (σ.I o0 5) then x4 else if at2 c i (o0 + 4) (σ.I o0 5) then x5 else if at2 c i (o0 + 5) (σ.I o0 5) then x6 else σ.I c i) else σ.I c i))) := by sorry
theorem sp_X1_has {E : XE} {d : Nat} {σ : Sto} {o0 : Nat} {x1 : Int} {o2 : Nat} {n2 : Nat} {x3 : Int} {x4 : Int} (hd : 1 ≤ d) (hL : Lay σ) (ho0 : At1 σ o0) (ho2 : σ.sh o2 = (1, n2)) (p0 : 0 ≤ σ.I o0 5 ∧ σ.I o0 5 ≤ 250) (p1 : 0 ≤ x1 ∧ x1 ≤ σ.I o0 5) (p2 : 0 ≤ x3 ∧ 0 ≤ x4 ∧ x3 + min x4 20 ≤ n2) (p3 : (n2 : Int) ≤ 1000000) (p4 : inR x4) (p5 : bd_0_20 σ (o0 + 2) 250) : CC E mX1_has d [aO o0, aI (x1), aO o2, aI (x3), aI (x4)] σ (RZ σ (exF (fun k => σ.I (o0 + 2) k = (min x4 20) ∧ eqA (σ.I (o0 + 1)) (σ.I o2) (20 * k) x3 (min x4 20)) x1 (σ.I o0 5))) := by sorry
end
section
/-! contracts: printed by tools/mk.py out of s38_keep.py -/
set_option maxRecDepth 100000
set_option maxHeartbeats 1500000
theorem sp_X9_keep {E : XE} {d : Nat} {σ : Sto}  (hd : 1 ≤ d) (hL : Lay σ)  (p0 : 0 ≤ σ.I 555 66 ∧ σ.I 555 66 ≤ 400) (p1 : 0 ≤ σ.I 555 71 ∧ σ.I 555 71 ≤ 20) : CC E mX9_keep d [aO 555] σ (RVI (fun y τ => (y = if σ.I 555 66 = 0 then -2 else if σ.I 555 71 = 20 then -3 else σ.I 555 71) ∧ (RD σ τ (fun c i => if (σ.I 555 66 ≠ 0 ∧ σ.I 555 71 ≠ 20) then (if rg c i 604 (400 * σ.I 555 71) (400 * σ.I 555 71 + σ.I 555 66) then σ.I 603 (i - 400 * σ.I 555 71) else if at2 c i 605 (σ.I 555 71) then σ.I 555 66 else if at2 c i 606 (σ.I 555 71) then σ.I 555 67 else if at2 c i 555 71 then σ.I 555 71 + 1 else σ.I c i) else σ.I c i)))) := by sorry
theorem sp_X9_use {E : XE} {d : Nat} {σ : Sto} {x1 : Int} (hd : 2 ≤ d) (hL : Lay σ)  (p0 : inR x1) (p1 : 0 ≤ σ.I 555 71 ∧ σ.I 555 71 ≤ 20) (p2 : bd_0_400 σ 605 20) : CC E mX9_use d [aO 555, aI (x1)] σ (RVI (fun y τ => (y = if (0 ≤ x1 ∧ x1 < σ.I 555 71) then σ.I 606 x1 else -1) ∧ (RD σ τ (fun c i => if (0 ≤ x1 ∧ x1 < σ.I 555 71) then (if fgM c i then 0 else if at2 c i 555 66 then σ.I 605 x1 else if at2 c i 555 67 then σ.I 606 x1 else if rg c i 603 0 (σ.I 605 x1) then σ.I 604 (400 * x1 + i) else σ.I c i) else σ.I c i)))) := by sorry
theorem sp_X9_hide {E : XE} {d : Nat} {σ : Sto} {x1 : Int} (hd : 2 ≤ d) (hL : Lay σ)  (p0 : inR x1) (p1 : 0 ≤ σ.I 555 66 ∧ σ.I 555 66 ≤ 400) : CC E mX9_hide d [aO 555, aI (x1)] σ (RVI (fun y τ => (y = if ¬ (1 ≤ x1 ∧ x1 ≤ 3) then -1 else if σ.I 555 66 = 0 then -2 else 1) ∧ (RD σ τ (fun c i => if ((1 ≤ x1 ∧ x1 ≤ 3) ∧ σ.I 555 66 ≠ 0) then (if fgM c i then 0 else if rg c i 607 (400 * x1) (400 * x1 + σ.I 555 66) then σ.I 603 (i - 400 * x1) else if at2 c i 608 x1 then σ.I 555 66 else σ.I c i) else σ.I c i)))) := by sorry
theorem sp_X9_unhide {E : XE} {d : Nat} {σ : Sto} {x1 : Int} (hd : 2 ≤ d) (hL : Lay σ)  (p0 : inR x1) : CC E mX9_unhide d [aO 555, aI (x1)] σ (RVI (fun y τ => (y = if ¬ (1 ≤ x1 ∧ x1 ≤ 3) then -1 else if 0 < σ.I 608 x1 then 1 else 0) ∧ (RD σ τ (fun c i => if (1 ≤ x1 ∧ x1 ≤ 3) then (if fgM c i then 0 else if at2 c i 608 x1 then 0 else σ.I c i) else σ.I c i)))) := by sorry
theorem sp_X9_blind {E : XE} {d : Nat} {σ : Sto} {x1 : Int} {x2 : Int} {x3 : Int} (hd : 2 ≤ d) (hL : Lay σ)  (p0 : inR x1) (p1 : inR x2) (p2 : inR x3) (p3 : 0 ≤ σ.I 555 27 ∧ σ.I 555 27 ≤ 12) : CC E mX9_blind d [aO 555, aI (x1), aI (x2), aI (x3)] σ (RVI (fun y τ => (y = if ¬ (1 ≤ x1 ∧ x1 ≤ 3 ∧ 0 ≤ x2 ∧ x2 < σ.I 555 27 ∧ 0 ≤ x3 ∧ x3 ≤ 1) then -1 else if σ.I 600 (12 * x1 + x2) = x3 then 0 else 1) ∧ (RD σ τ (fun c i => if (1 ≤ x1 ∧ x1 ≤ 3 ∧ 0 ≤ x2 ∧ x2 < σ.I 555 27 ∧ 0 ≤ x3 ∧ x3 ≤ 1) then (if fgM c i then 0 else if at2 c i 600 (12 * x1 + x2) then x3 else σ.I c i) else σ.I c i)))) := by sorry
theorem sp_X9_analyser {E : XE} {d : Nat} {σ : Sto} {x1 : Int} {x2 : Int} {x3 : Int} (hd : 1 ≤ d) (hL : Lay σ)  (p0 : inR x1) (p1 : inR x2) (p2 : inR x3) (p3 : 0 ≤ σ.I 555 3 ∧ σ.I 555 3 ≤ 6) : CC E mX9_analyser d [aO 555, aI (x1), aI (x2), aI (x3)] σ (RVI (fun y τ => (y = if ¬ (0 ≤ x1 ∧ x1 ≤ 1 ∧ 0 ≤ x2 ∧ x2 ≤ 2 ∧ 0 ≤ x3 ∧ x3 ≠ 1 ∧ x3 ≤ 5) then -1 else if σ.I 555 3 = 6 then -3 else σ.I 555 3) ∧ (RD σ τ (fun c i => if ((0 ≤ x1 ∧ x1 ≤ 1 ∧ 0 ≤ x2 ∧ x2 ≤ 2 ∧ 0 ≤ x3 ∧ x3 ≠ 1 ∧ x3 ≤ 5) ∧ σ.I 555 3 ≠ 6) then (if at2 c i 558 (σ.I 555 3) then x1 else if at2 c i 559 (σ.I 555 3) then x2 else if at2 c i 560 (σ.I 555 3) then x3 else if at2 c i 561 (σ.I 555 3) then 0 else if at2 c i 562 (σ.I 555 3) then 0 else if at2 c i 555 3 then σ.I 555 3 + 1 else σ.I c i) else σ.I c i)))) := by sorry
theorem user_R {σ : Sto} {i : Int} (h : Lay σ) (h0 : 0 ≤ i) (h1 : i < 4) : σ.R 50 i = some (215 + 15 * i.toNat) := (user_at h h0 h1).1
theorem user_b {σ : Sto} {i : Int} {b : Nat} (h : Lay σ) (h0 : 0 ≤ i) (h1 : i < 4) (r : σ.R 50 i = some b) : At8 σ b := by
  have q := user_at h h0 h1
  rw [q.1] at r
  cases r
  exact q.2
theorem kept_R {σ : Sto} {i : Int} (h : Lay σ) (h0 : 0 ≤ i) (h1 : i < 20) : σ.R 79 i = some (275 + 14 * i.toNat) := (kept_at h h0 h1).1
theorem kept_b {σ : Sto} {i : Int} {b : Nat} (h : Lay σ) (h0 : 0 ≤ i) (h1 : i < 20) (r : σ.R 79 i = some b) : At3 σ b := by
  have q := kept_at h h0 h1
  rw [q.1] at r
  cases r
  exact q.2
theorem sp_X0_unhide {E : XE} {d : Nat} {σ : Sto} {x1 : Int} (hd : 2 ≤ d) (hL : Lay σ)  (p0 : inR x1) : CC E mX0_unhide d [aO 0, aI (x1)] σ (RVI (fun y τ => (y = if ¬ (1 ≤ x1 ∧ x1 ≤ 3) then -1 else σ.I (215 + 15 * x1.toNat) 1) ∧ (RD σ τ (fun c i => if (1 ≤ x1 ∧ x1 ≤ 3) then (if fgX c i then 0 else if at2 c i (215 + 15 * x1.toNat) 1 then 0 else σ.I c i) else σ.I c i)))) := by sorry
theorem sp_X0_blind {E : XE} {d : Nat} {σ : Sto} {x1 : Int} {x2 : Int} {x3 : Int} (hd : 3 ≤ d) (hL : Lay σ)  (p0 : inR x1) (p1 : inR x2) (p2 : inR x3) (p3 : 0 ≤ σ.I 0 9 ∧ σ.I 0 9 ≤ 12) : CC E mX0_blind d [aO 0, aI (x1), aI (x2), aI (x3)] σ (RVI (fun y τ => (¬ (1 ≤ x1 ∧ x1 ≤ 3 ∧ 0 ≤ x2 ∧ x2 < σ.I 0 9 ∧ 0 ≤ x3 ∧ x3 ≤ 1) → y = -1) ∧ ((1 ≤ x1 ∧ x1 ≤ 3 ∧ 0 ≤ x2 ∧ x2 < σ.I 0 9 ∧ 0 ≤ x3 ∧ x3 ≤ 1) → (y = 0 ∨ y = 1) ∧ (y = 0 ↔ (bt32 (σ.I (215 + 15 * x1.toNat) 2) x2 ↔ x3 = 1))) ∧ (RD σ τ (fun c i => if (1 ≤ x1 ∧ x1 ≤ 3 ∧ 0 ≤ x2 ∧ x2 < σ.I 0 9 ∧ 0 ≤ x3 ∧ x3 ≤ 1) then (if fgX c i then 0 else if at2 c i (215 + 15 * x1.toNat) 2 then b32or (b32and (σ.I (215 + 15 * x1.toNat) 2) (b32xor (b32shl 1 x2) (-1))) (b32shl x3 x2) else σ.I c i) else σ.I c i)))) := by sorry
end
section
/-! contracts: printed by tools/mk.py out of s39_lines.py -/
set_option maxRecDepth 100000
set_option maxHeartbeats 1500000
theorem sp_X0_addMark {E : XE} {d : Nat} {σ : Sto} {x1 : Int} {x2 : Int} {x3 : Int} (hd : 1 ≤ d) (hL : Lay σ)  (p0 : 0 ≤ σ.I 0 75 ∧ σ.I 0 75 < 6000) (p1 : inR x1) (p2 : inR x2) (p3 : inR x3) : CC E mX0_addMark d [aO 0, aI (x1), aI (x2), aI (x3)] σ (RV (fun τ => RD σ τ (fun c i => if (¬ (0 < σ.I 0 75 ∧ σ.I 193 (σ.I 0 75 - 1) = x1 ∧ σ.I 194 (σ.I 0 75 - 1) = x2)) then (if at2 c i 193 (σ.I 0 75) then x1 else if at2 c i 194 (σ.I 0 75) then x2 else if at2 c i 195 (σ.I 0 75) then x3 else if at2 c i 0 75 then σ.I 0 75 + 1 else σ.I c i) else σ.I c i))) := by sorry
theorem sp_X9_layLine {E : XE} {d : Nat} {σ : Sto} {x1 : Int} {x2 : Int} {x3 : Int} (hd : 2 ≤ d) (hL : Lay σ)  (p0 : 0 ≤ σ.I 555 133 ∧ σ.I 555 133 < 130) (p1 : inR x1) (p2 : 0 ≤ x2 ∧ x2 < 130) (p3 : 0 ≤ x3 ∧ x3 < 601) (p4 : 1 ≤ σ.I 613 x2 ∧ σ.I 613 x2 ≤ 1000000000000000) (p5 : 0 ≤ σ.I 642 (601 * x2 + x3) ∧ σ.I 642 (601 * x2 + x3) ≤ 9000000000000000000) : CC E mX9_layLine d [aO 555, aI (x1), aI (x2), aI (x3)] σ (RV (fun τ => RD σ τ (fun c i => if at2 c i 653 (4 * σ.I 555 133) then x1 else if at2 c i 653 (4 * σ.I 555 133 + 1) then σ.I 609 x2 else if at2 c i 653 (4 * σ.I 555 133 + 2) then prd (σ.I 613 x2) (σ.I 642 (601 * x2 + x3)) else if at2 c i 653 (4 * σ.I 555 133 + 3) then σ.I 643 (601 * x2 + x3) else if at2 c i 555 133 then σ.I 555 133 + 1 else σ.I c i))) := by sorry
theorem sp_X9_addWordToken {E : XE} {d : Nat} {σ : Sto} {o1 : Nat} {n1 : Nat} {x2 : Int} {x3 : Int} (hd : 2 ≤ d) (hL : Lay σ) (ho1 : σ.sh o1 = (1, n1)) (p0 : 0 ≤ σ.I 555 22 ∧ σ.I 555 22 ≤ 251) (p1 : 0 ≤ x2 ∧ 0 ≤ x3 ∧ x2 + min x3 20 ≤ n1) (p2 : (n1 : Int) ≤ 1000000) (p3 : inR x3) (p4 : bd_0_20 σ 573 300) (p5 : o1 ≠ 572 ∧ o1 ≠ 573 ∧ o1 ≠ 555) : CC E mX9_addWordToken d [aO 555, aO o1, aI (x2), aI (x3)] σ (RV (fun τ => (σ.I 555 22 ≤ 250 → τ.I 555 22 = σ.I 555 22 + 1 - zb (exN (fun t => τ.I 573 t = (min x3 20) ∧ eqA (τ.I 572) (τ.I 572) (20 * t) (20 * σ.I 555 22) (min x3 20)) (σ.I 555 22))) ∧ (RD σ τ (fun c i => if σ.I 555 22 ≤ 250 then (if at2 c i 555 22 then τ.I c i else if rg c i 572 (20 * σ.I 555 22) (20 * σ.I 555 22 + (min x3 20)) then σ.I o1 (x2 + (i - 20 * σ.I 555 22)) else if at2 c i 573 (σ.I 555 22) then (min x3 20) else σ.I c i) else σ.I c i)))) := by sorry
end
section
/-! contracts: printed by tools/mk.py out of s40_stop.py -/
set_option maxRecDepth 100000
set_option maxHeartbeats 1500000
theorem take_RD {σ τ : Sto} {a : Nat} {k : Int} (h : ∀ c i, ¬ at2 c i a k → τ.I c i = σ.I c i) (h0 : τ.I a k = 0) : τ.I = fun c i => if at2 c i a k then 0 else σ.I c i := by
  funext c i
  by_cases z : at2 c i a k
  · rw [if_pos z, z.1, z.2]; exact h0
  · rw [if_neg z]; exact h c i z
theorem sp_X9_stop {E : XE} {d : Nat} {σ : Sto} {x1 : Int} (hd : 4 ≤ d) (hL : Lay σ)  (p0 : inR x1) (p1 : 0 ≤ σ.I 555 2 ∧ σ.I 555 2 ≤ 30000) (p2 : 0 ≤ σ.I 555 3 ∧ σ.I 555 3 ≤ 6) (p3 : bd_0_20 σ 564 360) (p4 : bd_0_20 σ 561 6) : CC E mX9_stop d [aO 555, aI (x1)] σ (RVI (fun y τ => (y = if ¬ (0 ≤ x1 ∧ x1 < σ.I 555 3 ∧ zb ((1 ≤ σ.I 555 2 ∧ σ.I 555 2 ≤ 20) ∧ letA (σ.I 557) 0 (σ.I 555 2)) = 1) then -1 else if zb (exN (fun k => σ.I 564 (60 * x1 + k) = σ.I 555 2 ∧ eqA (σ.I 563) (σ.I 557) (20 * (60 * x1 + k)) 0 (σ.I 555 2)) (σ.I 561 x1)) = 1 then σ.I 561 x1 else if σ.I 561 x1 = 20 then -3 else σ.I 561 x1 + 1) ∧ (RD σ τ (fun c i => if at2 c i 555 2 then 0 else if (0 ≤ x1 ∧ x1 < σ.I 555 3 ∧ zb ((1 ≤ σ.I 555 2 ∧ σ.I 555 2 ≤ 20) ∧ letA (σ.I 557) 0 (σ.I 555 2)) = 1) ∧ ¬ zb (exN (fun k => σ.I 564 (60 * x1 + k) = σ.I 555 2 ∧ eqA (σ.I 563) (σ.I 557) (20 * (60 * x1 + k)) 0 (σ.I 555 2)) (σ.I 561 x1)) = 1 ∧ ¬ σ.I 561 x1 = 20 then (if at2 c i 564 (60 * x1 + σ.I 561 x1) then σ.I 555 2 else if rg c i 563 (20 * (60 * x1 + σ.I 561 x1)) (20 * (60 * x1 + σ.I 561 x1) + σ.I 555 2) then σ.I 557 (i - 20 * (60 * x1 + σ.I 561 x1)) else if at2 c i 561 x1 then σ.I 561 x1 + 1 else σ.I c i) else σ.I c i)))) := by sorry
end
section
/-! contracts: printed by tools/mk.py out of s41_syn.py -/
set_option maxRecDepth 100000
set_option maxHeartbeats 1500000
/-- where the first blank is, n for none -/
noncomputable def blk (A : Int → Int) (n : Int) : Int := if fsF (fun k => A k = 32) 0 n = -1 then n else fsF (fun k => A k = 32) 0 n
theorem blk_in (A : Int → Int) (n : Int) (h : 0 ≤ n) : blk A n = 0 ∨ (0 < blk A n ∧ blk A n ≤ n) := by
  unfold blk
  have := fsF_in (fun k => A k = 32) 0 n
  split <;> omega
theorem sp_X9_synonym {E : XE} {d : Nat} {σ : Sto} {x1 : Int} (hd : 4 ≤ d) (hL : Lay σ)  (p0 : inR x1) (p1 : 0 ≤ σ.I 555 2 ∧ σ.I 555 2 ≤ 30000) (p2 : 0 ≤ σ.I 555 3 ∧ σ.I 555 3 ≤ 6) (p3 : bd_0_20 σ 562 6) : CC E mX9_synonym d [aO 555, aI (x1)] σ (RVI (fun y τ => (y = if ¬ (0 ≤ x1 ∧ x1 < σ.I 555 3 ∧ zb ((1 ≤ (blk (σ.I 557) (σ.I 555 2)) ∧ (blk (σ.I 557) (σ.I 555 2)) ≤ 20) ∧ letA (σ.I 557) 0 (blk (σ.I 557) (σ.I 555 2))) = 1 ∧ zb ((1 ≤ (σ.I 555 2) - ((blk (σ.I 557) (σ.I 555 2)) + 1) ∧ (σ.I 555 2) - ((blk (σ.I 557) (σ.I 555 2)) + 1) ≤ 20) ∧ letA (σ.I 557) ((blk (σ.I 557) (σ.I 555 2)) + 1) ((σ.I 555 2) - ((blk (σ.I 557) (σ.I 555 2)) + 1))) = 1) then -1 else if σ.I 562 x1 = 20 then -3 else σ.I 562 x1 + 1) ∧ (RD σ τ (fun c i => if at2 c i 555 2 then 0 else if (0 ≤ x1 ∧ x1 < σ.I 555 3 ∧ zb ((1 ≤ (blk (σ.I 557) (σ.I 555 2)) ∧ (blk (σ.I 557) (σ.I 555 2)) ≤ 20) ∧ letA (σ.I 557) 0 (blk (σ.I 557) (σ.I 555 2))) = 1 ∧ zb ((1 ≤ (σ.I 555 2) - ((blk (σ.I 557) (σ.I 555 2)) + 1) ∧ (σ.I 555 2) - ((blk (σ.I 557) (σ.I 555 2)) + 1) ≤ 20) ∧ letA (σ.I 557) ((blk (σ.I 557) (σ.I 555 2)) + 1) ((σ.I 555 2) - ((blk (σ.I 557) (σ.I 555 2)) + 1))) = 1) ∧ ¬ σ.I 562 x1 = 20 then (if at2 c i 564 (60 * x1 + 20 + 2 * σ.I 562 x1) then (blk (σ.I 557) (σ.I 555 2)) else if rg c i 563 (20 * (60 * x1 + 20 + 2 * σ.I 562 x1)) (20 * (60 * x1 + 20 + 2 * σ.I 562 x1) + (blk (σ.I 557) (σ.I 555 2))) then σ.I 557 (i - 20 * (60 * x1 + 20 + 2 * σ.I 562 x1)) else if at2 c i 564 ((60 * x1 + 20 + 2 * σ.I 562 x1) + 1) then (σ.I 555 2) - ((blk (σ.I 557) (σ.I 555 2)) + 1) else if rg c i 563 (20 * ((60 * x1 + 20 + 2 * σ.I 562 x1) + 1)) (20 * ((60 * x1 + 20 + 2 * σ.I 562 x1) + 1) + ((σ.I 555 2) - ((blk (σ.I 557) (σ.I 555 2)) + 1))) then σ.I 557 ((blk (σ.I 557) (σ.I 555 2)) + 1 + (i - 20 * ((60 * x1 + 20 + 2 * σ.I 562 x1) + 1))) else if at2 c i 562 x1 then σ.I 562 x1 + 1 else σ.I c i) else σ.I c i)))) := by sorry
end
