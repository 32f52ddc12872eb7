/-! ends by a throw -/
def RTV (P : Sto → Prop) (N : Nat → Sto → Prop) : Res → Sto → Prop := fun r τ => (r = .inl none ∧ P τ) ∨ ∃ a, r = .inr a ∧ N a τ
def RTI (P : Int → Sto → Prop) (N : Nat → Sto → Prop) : Res → Sto → Prop := fun r τ => (∃ y, r = .inl (some (aI y)) ∧ inR y ∧ P y τ) ∨ ∃ a, r = .inr a ∧ N a τ
def RTL (P : Int → Sto → Prop) (N : Nat → Sto → Prop) : Res → Sto → Prop := fun r τ => (∃ y, r = .inl (some (aL y)) ∧ inL y ∧ P y τ) ∨ ∃ a, r = .inr a ∧ N a τ
def RVO (P : Nat → Sto → Prop) : Res → Sto → Prop := fun r τ => ∃ b, r = .inl (some (aO b)) ∧ P b τ
section RTHR
variable {E : XE} {M : MI} {d pc pc' : Nat} {L : List (Nat × AV)} {st : List AV} {σ : Sto} {Q : Res → Sto → Prop} {e : Int} {b : Nat} {N : Nat → Sto → Prop}
theorem RTV_ret {P : Sto → Prop} (h : ∀ σ', SF σ σ' → P σ' → VV E M d pc' L st σ' Q) : ∀ v σ', RTV P N (.inl v) σ' → SF σ σ' → VV E M d pc' L (v.toList ++ st) σ' Q := by
  rintro v σ' (⟨q1, q2⟩ | ⟨a, q1, q2⟩) g
  · cases q1
    exact h σ' g q2
  · cases q1
theorem RTI_ret {P : Int → Sto → Prop} (h : ∀ y σ', inR y → SF σ σ' → P y σ' → VV E M d pc' L (aI y :: st) σ' Q) : ∀ v σ', RTI P N (.inl v) σ' → SF σ σ' → VV E M d pc' L (v.toList ++ st) σ' Q := by
  rintro v σ' (⟨y, q1, q2, q3⟩ | ⟨a, q1, q2⟩) g
  · cases q1
    exact h y σ' q2 g q3
  · cases q1
theorem RTL_ret {P : Int → Sto → Prop} (h : ∀ y σ', inL y → SF σ σ' → P y σ' → VV E M d pc' L (aL y :: st) σ' Q) : ∀ v σ', RTL P N (.inl v) σ' → SF σ σ' → VV E M d pc' L (v.toList ++ st) σ' Q := by
  rintro v σ' (⟨y, q1, q2, q3⟩ | ⟨a, q1, q2⟩) g
  · cases q1
    exact h y σ' q2 g q3
  · cases q1
theorem RVO_ret {P : Nat → Sto → Prop} (h : ∀ b σ', SF σ σ' → P b σ' → VV E M d pc' L (aO b :: st) σ' Q) : ∀ v σ', RVO P (.inl v) σ' → SF σ σ' → VV E M d pc' L (v.toList ++ st) σ' Q := by
  rintro v σ' ⟨b, q1, q3⟩ g
  cases q1
  exact h b σ' g q3
theorem RVO_thr {P : Nat → Sto → Prop} {B : Nat → Sto → Prop} : ∀ a σ', RVO P (.inr a) σ' → B a σ' := by
  rintro a σ' ⟨y, h, _⟩
  cases h
theorem RTV_thr {P : Sto → Prop} : ∀ a σ', RTV P N (.inr a) σ' → N a σ' := by
  rintro a σ' (⟨q1, q2⟩ | ⟨a, q1, q2⟩)
  · cases q1
  · cases q1; exact q2
theorem RTI_thr {P : Int → Sto → Prop} : ∀ a σ', RTI P N (.inr a) σ' → N a σ' := by
  rintro a σ' (⟨y, q1, q2⟩ | ⟨a, q1, q2⟩)
  · cases q1
  · cases q1; exact q2
theorem RTL_thr {P : Int → Sto → Prop} : ∀ a σ', RTL P N (.inr a) σ' → N a σ' := by
  rintro a σ' (⟨y, q1, q2⟩ | ⟨a, q1, q2⟩)
  · cases q1
  · cases q1; exact q2
theorem RTV_mk {P : Sto → Prop} (h : P σ) : RTV P N (.inl none) σ := Or.inl ⟨rfl, h⟩
theorem RTI_mk {P : Int → Sto → Prop} (h : inR e) (h2 : P e σ) : RTI P N (.inl (some (aI e))) σ := Or.inl ⟨e, rfl, h, h2⟩
theorem RTL_mk {P : Int → Sto → Prop} (h : inL e) (h2 : P e σ) : RTL P N (.inl (some (aL e))) σ := Or.inl ⟨e, rfl, h, h2⟩
theorem RVO_mk {P : Nat → Sto → Prop} (h2 : P b σ) : RVO P (.inl (some (aO b))) σ := ⟨b, rfl, h2⟩
theorem RTV_mkT {P : Sto → Prop} (h : N b σ) : RTV P N (.inr b) σ := Or.inr ⟨b, rfl, h⟩
theorem RTI_mkT {P : Int → Sto → Prop} (h : N b σ) : RTI P N (.inr b) σ := Or.inr ⟨b, rfl, h⟩
theorem RTL_mkT {P : Int → Sto → Prop} (h : N b σ) : RTL P N (.inr b) σ := Or.inr ⟨b, rfl, h⟩
end RTHR
