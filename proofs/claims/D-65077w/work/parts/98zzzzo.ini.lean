/-! contracts: printed by tools/mk.py out of s98zzzzo_ini.py -/
set_option maxRecDepth 100000
set_option maxHeartbeats 3000000
/-! the store behind both constructors -/
theorem nC_fin (c : Nat) (i : Int) : nC cM245 c i = (if c = 555 ∧ i = 131 then -1 else if c = 597 ∧ i = 3 then -1 else if c = 597 ∧ i = 2 then -1 else if c = 597 ∧ i = 1 then -1 else if c = 597 ∧ i = 0 then -1 else if c = 18 ∧ i = 7 then 0 else if c = 25 ∧ 0 ≤ i ∧ i < 8192 then -1 else if c = 0 ∧ i = 96 then 1 else if c = 0 ∧ i = 95 then 1 else if c = 0 ∧ i = 64 then -1 else if c = 48 ∧ i = 3 then -1 else if c = 48 ∧ i = 2 then -1 else if c = 48 ∧ i = 1 then -1 else if c = 48 ∧ i = 0 then -1 else 0 : Int) := rfl
def fIni (c : Nat) (i : Int) : Int := if (1 ≤ (1 : Int) ∧ (1 : Int) ≤ 8 ∧ 1 ≤ (1 : Int) ∧ (1 : Int) ≤ 8) ∧ at2 c i 555 57 then 1 else if (1 ≤ (1 : Int) ∧ (1 : Int) ≤ 8 ∧ 1 ≤ (1 : Int) ∧ (1 : Int) ≤ 8) ∧ at2 c i 555 58 then 1 else if (1 ≤ (1 : Int) ∧ (1 : Int) ≤ 8 ∧ 1 ≤ (1 : Int) ∧ (1 : Int) ≤ 8) ∧ (rg c i 598 0 8 ∨ rg c i 599 0 8) then 0 else (crun cM245 e00).I c i
theorem ini_n {τ : Sto} (h : RD (crun cM245 e00) τ fIni) : τ.n = 675 := by rw [h.1.2.2]; exact cnn wcM245
theorem ini_z {τ : Sto} (h : RD (crun cM245 e00) τ fIni) : ssum τ ≤ 4000000 := by
  rw [ssum_eq h.1.2.2 h.1.2.1, wZ _ _ _ wcM245]
  decide
theorem ini_L {τ : Sto} (h : RD (crun cM245 e00) τ fIni) : Lay τ := by
  have q := layM
  unfold Lay at q ⊢
  rw [h.1.1, h.1.2.1]
  exact q
theorem ini_R {τ : Sto} (h : RD (crun cM245 e00) τ fIni) : (∀ k : Int, 0 ≤ k → k < 6 → τ.R 3 k = none) ∧ τ.R 555 162 = some 673 ∧ τ.R 555 163 = some 674 := by
  rw [h.1.1]
  refine ⟨fun k h0 h1 => ?_, cR wcM245 (a := 555) (k := 162) (by decide +kernel), cR wcM245 (a := 555) (k := 163) (by decide +kernel)⟩
  have : k = ((0 : Nat) : Int) ∨ k = ((1 : Nat) : Int) ∨ k = ((2 : Nat) : Int) ∨ k = ((3 : Nat) : Int) ∨ k = ((4 : Nat) : Int) ∨ k = ((5 : Nat) : Int) := by omega
  rcases this with rfl | rfl | rfl | rfl | rfl | rfl
  · exact cR wcM245 (by decide +kernel)
  · exact cR wcM245 (by decide +kernel)
  · exact cR wcM245 (by decide +kernel)
  · exact cR wcM245 (by decide +kernel)
  · exact cR wcM245 (by decide +kernel)
  · exact cR wcM245 (by decide +kernel)
/-- all numbers are 0 but few -/
theorem ini_0 {τ : Sto} (h : RD (crun cM245 e00) τ fIni) (c : Nat) (i : Int) (hc : c ≠ 25 ∧ c ≠ 48 ∧ c ≠ 597) (h0 : ¬ (c = 0 ∧ (i = 64 ∨ i = 95 ∨ i = 96))) (h5 : ¬ (c = 555 ∧ (i = 57 ∨ i = 58 ∨ i = 131))) : τ.I c i = 0 := by
  rw [h.2]
  unfold fIni
  rw [if_neg (fun q => by have := q.2; simp only [at2] at this; omega), if_neg (fun q => by have := q.2; simp only [at2] at this; omega)]
  split
  · rfl
  · rw [c_I c i _ _ _ wcM245, nC_fin]
    repeat rw [if_neg (fun q => by omega)]
    split
    · rfl
    · repeat rw [if_neg (fun q => by omega)]
theorem ini_p {τ : Sto} (h : RD (crun cM245 e00) τ fIni) (i : Int) (h0 : 0 ≤ i) (h1 : i < 4) : τ.I 48 i = -1 ∧ τ.I 597 i = -1 := by
  rw [h.2]
  unfold fIni
  rw [if_neg (fun q => by have := q.2; simp only [at2] at this; omega), if_neg (fun q => by have := q.2; simp only [at2] at this; omega), if_neg (fun q => by have := q.2; simp only [rg] at this; omega), if_neg (fun q => by have := q.2; simp only [at2] at this; omega), if_neg (fun q => by have := q.2; simp only [at2] at this; omega), if_neg (fun q => by have := q.2; simp only [rg] at this; omega), c_I _ i _ _ _ wcM245, c_I _ i _ _ _ wcM245, nC_fin, nC_fin]
  have : i = 0 ∨ i = 1 ∨ i = 2 ∨ i = 3 := by omega
  rcases this with rfl | rfl | rfl | rfl <;> exact ⟨rfl, rfl⟩
theorem ini_c {τ : Sto} (h : RD (crun cM245 e00) τ fIni) (i : Int) (h0 : 0 ≤ i) (h1 : i < 8192) : τ.I 25 i = -1 := by
  rw [h.2]
  unfold fIni
  rw [if_neg (fun q => by have := q.2; simp only [at2] at this; omega), if_neg (fun q => by have := q.2; simp only [at2] at this; omega), if_neg (fun q => by have := q.2; simp only [rg] at this; omega), c_I _ i _ _ _ wcM245, nC_fin]
  repeat rw [if_neg (fun q => by omega)]
  rw [if_pos ⟨rfl, h0, h1⟩]
theorem ini_f {τ : Sto} (h : RD (crun cM245 e00) τ fIni) : (τ.I 0 64 = -1 ∧ τ.I 0 95 = 1 ∧ τ.I 0 96 = 1) ∧ τ.I 555 57 = 1 ∧ τ.I 555 58 = 1 ∧ τ.I 555 131 = -1 := by
  have e : ∀ c i, τ.I c i = fIni c i := fun c i => by rw [h.2]
  have k : ∀ c i, (crun cM245 e00).I c i = nC cM245 c i := fun c i => c_I c i _ _ _ wcM245
  refine ⟨⟨?_, ?_, ?_⟩, ?_, ?_, ?_⟩ <;> rw [e] <;> unfold fIni <;> simp [at2, rg, k, nC_fin]

