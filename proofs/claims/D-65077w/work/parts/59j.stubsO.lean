section
/-! contracts: printed by tools/mk.py out of s98zzr_swpM.py -/
set_option maxRecDepth 100000
set_option maxHeartbeats 1600000
/-! sweep and crash: the model -/
def ndT (σ : Sto) (k : Int) : Prop := ndd (σ.I 594) (σ.I 592) (σ.I 593) (σ.I 597) (σ.I 555 53) (σ.I 555 55) k
def drM (σ : Sto) (k : Int) : Prop := σ.I 594 k ≠ 0 ∧ ¬ ndT σ k
def SWM (σ τ : Sto) (n : Int) : Prop := (∀ c i, c ≠ 594 → τ.I c i = if fgM c i then 0 else σ.I c i) ∧ τ.2 = σ.2 ∧ (∀ k, (0 ≤ k ∧ k < n) → drM σ k → τ.I 594 k = 0) ∧ ∀ k, ¬ ((0 ≤ k ∧ k < n) ∧ drM σ k) → τ.I 594 k = σ.I 594 k
theorem SWM_f {σ τ : Sto} {n : Int} (h : SWM σ τ n) {c : Nat} {i : Int} (q : c ≠ 594) (q2 : ¬ fgM c i) : τ.I c i = σ.I c i := by rw [h.1 c i q, if_neg q2]
theorem SWM_nd {σ τ : Sto} {n : Int} (h : SWM σ τ n) : ndd (τ.I 594) (τ.I 592) (τ.I 593) (τ.I 597) (τ.I 555 53) (τ.I 555 55) n ↔ ndT σ n := by
  have e : ∀ c, c ≠ 594 → c ≠ 555 → τ.I c = σ.I c := fun c q r => funext fun i => SWM_f h q (by unfold fgM; omega)
  have e7 : τ.I 594 n = σ.I 594 n := h.2.2.2 n (fun z => by omega)
  unfold ndT ndd inV
  rw [e 592 (by decide) (by decide), e 593 (by decide) (by decide), e 597 (by decide) (by decide), SWM_f h (c := 555) (i := 53) (by decide) (by unfold fgM; omega), SWM_f h (c := 555) (i := 55) (by decide) (by unfold fgM; omega), e7]
theorem SWM_0 {σ τ : Sto} (h : RD σ τ (fun c i => if fgM c i then 0 else σ.I c i)) : SWM σ τ 0 := ⟨fun c i _ => congrFun (congrFun h.2 c) i, Prod.ext h.1.1 (Prod.ext h.1.2.1 h.1.2.2), fun k a => by omega, fun k _ => (congrFun (congrFun h.2 594) k).trans (if_neg (by unfold fgM; omega))⟩
theorem SWM_n {σ τ : Sto} {n : Int} (h : SWM σ τ n) (hn : ¬ drM σ n) : SWM σ τ (n + 1) := by
  obtain ⟨a, b, c, d⟩ := h
  refine ⟨a, b, fun k k0 kd => ?_, fun k kd => d k (fun z => kd ⟨⟨z.1.1, by omega⟩, z.2⟩)⟩
  rcases (show k < n ∨ k = n by omega) with z | z
  · exact c k ⟨k0.1, z⟩ kd
  · rw [z] at kd; contradiction
theorem SWM_y {σ τ υ : Sto} {n : Int} (h : SWM σ τ n) (h0 : 0 ≤ n) (hn : drM σ n) (e : υ = τ.wI 594 n 0) : SWM σ υ (n + 1) := by
  obtain ⟨a, b, c, d⟩ := h
  refine ⟨fun c i q => by rw [e, I_ne _ _ _ _ q]; exact a c i q, by rw [e]; exact b, fun k k0 kd => ?_, fun k kd => ?_⟩
  · rw [e]
    rcases (show k < n ∨ k = n by omega) with z | z
    · rw [I_nj _ _ _ _ (by omega)]; exact c k ⟨k0.1, z⟩ kd
    · rw [z, I_same]
  · rw [e, I_nj _ _ _ _ (fun z => kd ⟨by omega, by rw [z]; exact hn⟩)]; exact d k (fun z => kd ⟨⟨z.1.1, by omega⟩, z.2⟩)
theorem BOM_e {σ τ : Sto} (h : BOM σ) (e : ∀ c, c = 580 ∨ c = 581 ∨ c = 582 ∨ c = 587 → τ.I c = σ.I c) (e3 : τ.I 555 30 = σ.I 555 30) : BOM τ := by
  obtain ⟨a, b, c, d⟩ := h
  refine ⟨by rw [e3]; exact a, by rw [e 582 (by omega)]; exact b, ?_, bd_0_20_eq d (e 587 (by omega))⟩
  have l : lnT τ = lnT σ := funext fun v => by unfold lnT; rw [e 582 (by omega)]
  rw [e3, e 580 (by omega), e 581 (by omega), e 582 (by omega), l]; exact c
theorem LOM_e {σ τ : Sto} (h : LOM σ) (e : ∀ c, c = 595 ∨ c = 596 → τ.I c = σ.I c) (e1 : τ.I 555 52 = σ.I 555 52 ∧ τ.I 555 45 = σ.I 555 45 ∧ σ.I 555 45 ≤ τ.I 555 30) (e2 : ∀ k, τ.I 594 k ≠ 0 → σ.I 594 k ≠ 0) : LOM τ := by
  obtain ⟨a, b, c, d⟩ := h
  unfold LOM
  rw [e 595 (by omega), e 596 (by omega), e1.1, e1.2.1]
  exact ⟨a, ⟨b.1, e1.2.2⟩, fun j j0 j1 j2 => c j j0 j1 (e2 j j2), fun j k j0 j1 j2 j3 j4 => d j k j0 j1 j2 (e2 j j3) (e2 k j4)⟩
theorem SWM_B {σ τ : Sto} {n : Int} (h : SWM σ τ n) (hB : BOM σ) : BOM τ := BOM_e hB (fun c q => funext fun i => SWM_f h (by omega) (by unfold fgM; omega)) (SWM_f h (by omega) (by unfold fgM; omega))
theorem SWM_L {σ τ : Sto} {n : Int} (h : SWM σ τ n) (hB : LOM σ) : LOM τ := LOM_e hB (fun c q => funext fun i => SWM_f h (by omega) (by unfold fgM; omega)) ⟨SWM_f h (by omega) (by unfold fgM; omega), SWM_f h (by omega) (by unfold fgM; omega), by rw [SWM_f h (c := 555) (i := 30) (by omega) (by unfold fgM; omega)]; exact hB.2.1.2⟩ (fun k q z => q (by
    rcases Classical.em ((0 ≤ k ∧ k < n) ∧ drM σ k) with w | w
    · exact h.2.2.1 k w.1 w.2
    · rw [h.2.2.2 k w]; exact z))
/-- what a sweep leaves -/
def SWK (σ τ : Sto) : Prop := ∃ ψ, SWM σ ψ (σ.I 555 52) ∧ PKM ψ τ
/-- hits and the draft are gone -/
def NTM (σ δ : Sto) : Prop := ∃ ε, RD σ ε (fun c i => if fgM c i then 0 else σ.I c i) ∧ RD ε δ (fun c i => if ε.I 555 45 < ε.I 555 30 ∧ at2 c i 555 38 then ε.I 580 (ε.I 555 45) else if ε.I 555 45 < ε.I 555 30 ∧ at2 c i 555 44 then ε.I 582 (ε.I 555 45) else if ε.I 555 45 < ε.I 555 30 ∧ at2 c i 555 30 then ε.I 555 45 else if ε.I 555 45 < ε.I 555 30 ∧ at2 c i 582 (ε.I 555 45) then ε.I 582 (ε.I 555 45) else if ¬ ε.I 555 45 < ε.I 555 30 ∧ at2 c i 582 (ε.I 555 30) then ε.I 555 44 else ε.I c i)
theorem NTM_f {σ δ : Sto} (h : NTM σ δ) {c : Nat} {i : Int} (q : ¬ fgM c i) (q2 : ¬ (c = 555 ∧ (i = 38 ∨ i = 44 ∨ i = 30))) (q3 : c ≠ 582) : δ.I c i = σ.I c i := by
  obtain ⟨ε, a, b⟩ := h
  refine (congrFun (congrFun b.2 c) i).trans ?_
  show (if _ then _ else if _ then _ else if _ then _ else if _ then _ else if _ then _ else _) = _
  rw [if_neg (fun z => q2 ⟨z.2.1, Or.inl z.2.2⟩), if_neg (fun z => q2 ⟨z.2.1, Or.inr (Or.inl z.2.2)⟩), if_neg (fun z => q2 ⟨z.2.1, Or.inr (Or.inr z.2.2)⟩), if_neg (fun z => q3 z.2.1), if_neg (fun z => q3 z.2.1)]
  exact (congrFun (congrFun a.2 c) i).trans (if_neg q)
theorem NTM_n {σ δ : Sto} (h : NTM σ δ) (hl : σ.I 555 45 ≤ σ.I 555 30) : δ.I 555 30 = σ.I 555 45 := by
  obtain ⟨ε, a, b⟩ := h
  have e : ∀ i, ¬ fgM 555 i → ε.I 555 i = σ.I 555 i := fun i q => (congrFun (congrFun a.2 555) i).trans (if_neg q)
  refine (congrFun (congrFun b.2 555) 30).trans ?_
  show (if _ then _ else if _ then _ else if _ then _ else if _ then _ else if _ then _ else _) = _
  rw [if_neg (fun z => absurd z.2.2 (by decide)), if_neg (fun z => absurd z.2.2 (by decide))]
  rw [e 45 (by unfold fgM; omega), e 30 (by unfold fgM; omega)]
  by_cases y : σ.I 555 45 < σ.I 555 30
  · rw [if_pos ⟨y, rfl, rfl⟩]
  · rw [if_neg (fun z => y z.1), if_neg (fun z => y z.1), if_neg (fun z => absurd z.2.1 (by decide))]; omega
theorem NTM_T {σ δ : Sto} (h : NTM σ δ) (hl : σ.I 555 45 ≤ σ.I 555 30) (ht : σ.I 582 (σ.I 555 30) = σ.I 555 44) : δ.I 582 = σ.I 582 := by
  obtain ⟨ε, a, b⟩ := h
  have e : ∀ i, ¬ fgM 555 i → ε.I 555 i = σ.I 555 i := fun i q => (congrFun (congrFun a.2 555) i).trans (if_neg q)
  have e2 : ∀ i, ε.I 582 i = σ.I 582 i := fun i => (congrFun (congrFun a.2 582) i).trans (if_neg (by unfold fgM; omega))
  funext i
  refine (congrFun (congrFun b.2 582) i).trans ?_
  show (if _ then _ else if _ then _ else if _ then _ else if _ then _ else if _ then _ else _) = _
  rw [if_neg (fun z => absurd z.2.1 (by decide)), if_neg (fun z => absurd z.2.1 (by decide)), if_neg (fun z => absurd z.2.1 (by decide))]
  rw [e 45 (by unfold fgM; omega), e 30 (by unfold fgM; omega), e2, e2]
  by_cases y : σ.I 555 45 < σ.I 555 30 ∧ at2 582 i 582 (σ.I 555 45)
  · rw [if_pos y, y.2.2]
  · rw [if_neg y]
    by_cases x : ¬ σ.I 555 45 < σ.I 555 30 ∧ at2 582 i 582 (σ.I 555 30)
    · rw [if_pos x, x.2.2, ht]; exact e 44 (by unfold fgM; omega)
    · rw [if_neg x]
theorem NTM_B {σ δ : Sto} (h : NTM σ δ) (hB : BOM σ) (hLm : LOM σ) (ht : σ.I 582 (σ.I 555 30) = σ.I 555 44) : BOM δ := by
  obtain ⟨a, b, c, d⟩ := hB
  have n := NTM_n h hLm.2.1.2
  have t := NTM_T h hLm.2.1.2 ht
  have e : ∀ c, c = 580 ∨ c = 581 ∨ c = 587 → δ.I c = σ.I c := fun c q => funext fun i => NTM_f h (by unfold fgM; omega) (by omega) (by omega)
  have l : lnT δ = lnT σ := funext fun v => by unfold lnT; rw [t]
  have hl := hLm.2.1
  refine ⟨by rw [n]; omega, by rw [t]; exact b, ?_, bd_0_20_eq d (e 587 (by omega))⟩
  rw [n, e 580 (by omega), e 581 (by omega), t, l]; exact fun v v0 v1 => c v v0 (by omega)
def CM2 (σ τ : Sto) (n m : Int) : Prop := (∀ c i, c ≠ 593 → c ≠ 594 → τ.I c i = σ.I c i) ∧ τ.2 = σ.2 ∧ (∀ k, τ.I 594 k = if (0 ≤ k ∧ k < n) ∧ σ.I 594 k ≠ 0 ∧ σ.I 555 55 < σ.I 592 k then 0 else σ.I 594 k) ∧ ∀ k, τ.I 593 k = if (0 ≤ k ∧ k < m) ∧ (σ.I 594 k ≠ 0 ∧ ¬ σ.I 555 55 < σ.I 592 k) ∧ σ.I 555 55 < σ.I 593 k then 2147483647 else σ.I 593 k
theorem CM2_a {σ τ υ : Sto} {n m : Int} (h : CM2 σ τ n m) (h0 : 0 ≤ n) (e : ∀ c i, ¬ (c = 594 ∧ i = n) → υ.I c i = τ.I c i) (e7 : υ.I 594 n = if σ.I 594 n ≠ 0 ∧ σ.I 555 55 < σ.I 592 n then 0 else σ.I 594 n) (er : υ.2 = τ.2) : CM2 σ υ (n + 1) m := by
  obtain ⟨a, b, c, d⟩ := h
  refine ⟨fun c i x y => by rw [e c i (by omega)]; exact a c i x y, er.trans b, fun k => ?_, fun k => by rw [e _ _ (by omega)]; exact d k⟩
  rcases (show k = n ∨ k ≠ n by omega) with z | z
  · rw [z, e7]
    by_cases y : σ.I 594 n ≠ 0 ∧ σ.I 555 55 < σ.I 592 n
    · rw [if_pos y, if_pos ⟨by omega, y⟩]
    · rw [if_neg y, if_neg (fun w => y w.2)]
  · rw [e _ _ (by omega), c k]
    by_cases y : (0 ≤ k ∧ k < n) ∧ σ.I 594 k ≠ 0 ∧ σ.I 555 55 < σ.I 592 k
    · rw [if_pos y, if_pos ⟨by omega, y.2⟩]
    · rw [if_neg y, if_neg (fun w => y ⟨by omega, w.2⟩)]
theorem CM2_b {σ τ υ : Sto} {n m : Int} (h : CM2 σ τ n m) (h0 : 0 ≤ m) (e : ∀ c i, ¬ (c = 593 ∧ i = m) → υ.I c i = τ.I c i) (e7 : υ.I 593 m = if (σ.I 594 m ≠ 0 ∧ ¬ σ.I 555 55 < σ.I 592 m) ∧ σ.I 555 55 < σ.I 593 m then 2147483647 else σ.I 593 m) (er : υ.2 = τ.2) : CM2 σ υ n (m + 1) := by
  obtain ⟨a, b, c, d⟩ := h
  refine ⟨fun c i x y => by rw [e c i (by omega)]; exact a c i x y, er.trans b, fun k => by rw [e _ _ (by omega)]; exact c k, fun k => ?_⟩
  rcases (show k = m ∨ k ≠ m by omega) with z | z
  · rw [z, e7]
    by_cases y : (σ.I 594 m ≠ 0 ∧ ¬ σ.I 555 55 < σ.I 592 m) ∧ σ.I 555 55 < σ.I 593 m
    · rw [if_pos y, if_pos ⟨by omega, y⟩]
    · rw [if_neg y, if_neg (fun w => y w.2)]
  · rw [e _ _ (by omega), d k]
    by_cases y : (0 ≤ k ∧ k < m) ∧ (σ.I 594 k ≠ 0 ∧ ¬ σ.I 555 55 < σ.I 592 k) ∧ σ.I 555 55 < σ.I 593 k
    · rw [if_pos y, if_pos ⟨by omega, y.2⟩]
    · rw [if_neg y, if_neg (fun w => y ⟨by omega, w.2⟩)]
def CMV (σ τ : Sto) (n m : Int) : Prop := ∃ δ, NTM σ δ ∧ CM2 δ τ n m
theorem NTM_c {σ δ : Sto} (h : NTM σ δ) : (∀ k, δ.I 594 k = σ.I 594 k) ∧ (∀ k, δ.I 593 k = σ.I 593 k) ∧ (∀ k, δ.I 592 k = σ.I 592 k) ∧ δ.I 555 55 = σ.I 555 55 ∧ δ.I 555 52 = σ.I 555 52 := ⟨fun k => NTM_f h (by unfold fgM; omega) (by omega) (by omega), fun k => NTM_f h (by unfold fgM; omega) (by omega) (by omega), fun k => NTM_f h (by unfold fgM; omega) (by omega) (by omega), NTM_f h (by unfold fgM; omega) (by omega) (by omega), NTM_f h (by unfold fgM; omega) (by omega) (by omega)⟩
theorem CMV_f {σ τ : Sto} {n m k : Int} (h : CMV σ τ n m) : (τ.I 594 k = if (0 ≤ k ∧ k < n) ∧ σ.I 594 k ≠ 0 ∧ σ.I 555 55 < σ.I 592 k then 0 else σ.I 594 k) ∧ (τ.I 593 k = if (0 ≤ k ∧ k < m) ∧ (σ.I 594 k ≠ 0 ∧ ¬ σ.I 555 55 < σ.I 592 k) ∧ σ.I 555 55 < σ.I 593 k then 2147483647 else σ.I 593 k) ∧ τ.I 592 k = σ.I 592 k ∧ τ.I 555 55 = σ.I 555 55 ∧ τ.I 555 52 = σ.I 555 52 := by
  obtain ⟨δ, a, b⟩ := h
  obtain ⟨n1, n2, n3, n4, n5⟩ := NTM_c a
  have z1 := b.2.2.1 k
  have z2 := b.2.2.2 k
  rw [n1, n4, n3] at z1
  rw [n1, n4, n3, n2] at z2
  exact ⟨z1, z2, (b.1 _ _ (by decide) (by decide)).trans (n3 k), (b.1 _ _ (by decide) (by decide)).trans n4, (b.1 _ _ (by decide) (by decide)).trans n5⟩
theorem CMV_a {σ τ υ : Sto} {n m : Int} (h : CMV σ τ n m) (h0 : 0 ≤ n) (e : ∀ c i, ¬ (c = 594 ∧ i = n) → υ.I c i = τ.I c i) (e7 : υ.I 594 n = if σ.I 594 n ≠ 0 ∧ σ.I 555 55 < σ.I 592 n then 0 else σ.I 594 n) (er : υ.2 = τ.2) : CMV σ υ (n + 1) m := by
  obtain ⟨δ, a, b⟩ := h
  obtain ⟨n1, n2, n3, n4, n5⟩ := NTM_c a
  exact ⟨δ, a, CM2_a b h0 e (by rw [n1, n4, n3]; exact e7) er⟩
theorem CMV_b {σ τ υ : Sto} {n m : Int} (h : CMV σ τ n m) (h0 : 0 ≤ m) (e : ∀ c i, ¬ (c = 593 ∧ i = m) → υ.I c i = τ.I c i) (e7 : υ.I 593 m = if (σ.I 594 m ≠ 0 ∧ ¬ σ.I 555 55 < σ.I 592 m) ∧ σ.I 555 55 < σ.I 593 m then 2147483647 else σ.I 593 m) (er : υ.2 = τ.2) : CMV σ υ n (m + 1) := by
  obtain ⟨δ, a, b⟩ := h
  obtain ⟨n1, n2, n3, n4, n5⟩ := NTM_c a
  exact ⟨δ, a, CM2_b b h0 e (by rw [n1, n4, n3, n2]; exact e7) er⟩
theorem CMV_0 {σ δ : Sto} (h : NTM σ δ) : CMV σ δ 0 0 := ⟨δ, h, fun _ _ _ _ => rfl, rfl, fun k => by rw [if_neg (by omega)], fun k => by rw [if_neg (by omega)]⟩
theorem CMV_B {σ τ : Sto} {n m : Int} (h : CMV σ τ n m) (hB : BOM σ) (hLm : LOM σ) (ht : σ.I 582 (σ.I 555 30) = σ.I 555 44) : BOM τ := by
  obtain ⟨δ, a, b⟩ := h
  exact BOM_e (NTM_B a hB hLm ht) (fun c q => funext fun i => b.1 c i (by omega) (by omega)) (b.1 _ _ (by omega) (by omega))
theorem CMV_L {σ τ : Sto} {n m : Int} (h : CMV σ τ n m) (hLm : LOM σ) : LOM τ := by
  have f := fun k => (CMV_f (k := k) h).1
  obtain ⟨δ, a, b⟩ := h
  have n1 := NTM_n a hLm.2.1.2
  exact LOM_e hLm (fun c q => funext fun i => (b.1 c i (by omega) (by omega)).trans (NTM_f a (by unfold fgM; omega) (by omega) (by omega))) ⟨(b.1 _ _ (by omega) (by omega)).trans (NTM_f a (by unfold fgM; omega) (by omega) (by omega)), (b.1 _ _ (by omega) (by omega)).trans (NTM_f a (by unfold fgM; omega) (by omega) (by omega)), by rw [b.1 _ _ (by omega) (by omega), n1]; exact Int.le_refl _⟩ (fun k q z => q (by rw [f k, z]; by_cases y : (0 ≤ k ∧ k < n) ∧ (0 : Int) ≠ 0 ∧ σ.I 555 55 < σ.I 592 k; (rw [if_pos y]); (rw [if_neg y])))
def PNM (σ τ : Sto) (p : Int) : Prop := (∀ c i, c ≠ 597 → τ.I c i = σ.I c i) ∧ τ.2 = σ.2 ∧ ∀ k, τ.I 597 k = if (0 ≤ k ∧ k < p) ∧ σ.I 555 55 < σ.I 597 k then -1 else σ.I 597 k
theorem PNM_s {σ τ υ : Sto} {p x : Int} (h : PNM σ τ p) (h0 : 0 ≤ p) (e : υ = τ.wI 597 p x) (hx : x = if τ.I 555 55 < τ.I 597 p then -1 else τ.I 597 p) : PNM σ υ (p + 1) := by
  obtain ⟨a, b, c⟩ := h
  rw [a 555 55 (by decide), show τ.I 597 p = σ.I 597 p by rw [c p, if_neg (by omega)]] at hx
  refine ⟨fun c i q => by rw [e, I_ne _ _ _ _ q]; exact a c i q, by rw [e]; exact b, fun k => ?_⟩
  rw [e]
  rcases (show k = p ∨ k ≠ p by omega) with z | z
  · rw [z, I_same, hx]
    by_cases y : σ.I 555 55 < σ.I 597 p
    · rw [if_pos y, if_pos ⟨by omega, y⟩]
    · rw [if_neg y, if_neg (fun w => y w.2)]
  · rw [I_nj _ _ _ _ z, c k]
    by_cases y : (0 ≤ k ∧ k < p) ∧ σ.I 555 55 < σ.I 597 k
    · rw [if_pos y, if_pos ⟨by omega, y.2⟩]
    · rw [if_neg y, if_neg (fun w => y ⟨by omega, w.2⟩)]
/-- what a crash leaves -/
def CRK (σ τ : Sto) (p : Int) : Prop := ∃ γ ρ, CMV σ γ (σ.I 555 52) (σ.I 555 52) ∧ PKM γ ρ ∧ PNM (ρ.wI 555 53 (ρ.I 555 55)) τ p
theorem CRK_s {σ τ υ : Sto} {p x : Int} (h : CRK σ τ p) (h0 : 0 ≤ p) (e : υ = τ.wI 597 p x) (hx : x = if τ.I 555 55 < τ.I 597 p then -1 else τ.I 597 p) : CRK σ υ (p + 1) := by
  obtain ⟨γ, ρ, a, b, c⟩ := h
  exact ⟨γ, ρ, a, b, PNM_s c h0 e hx⟩
def inM (σ : Sto) (k : Int) : Prop := inV (σ.I 594) (σ.I 592) (σ.I 593) (σ.I 555 55) k

theorem sp_X9_sweep {E : XE} {d : Nat} {σ : Sto}  (hd : 3 ≤ d) (hL : Lay σ)  (p0 : BOM σ) (p1 : LOM σ) : CC E mX9_sweep d [aO 555] σ (RVI (fun y τ => (y = cn (drM σ) (σ.I 555 52)) ∧ (SWK σ τ))) := by sorry
theorem sp_X9_crash {E : XE} {d : Nat} {σ : Sto}  (hd : 3 ≤ d) (hL : Lay σ)  (p0 : BOM σ) (p1 : LOM σ) (p2 : σ.I 582 (σ.I 555 30) = σ.I 555 44) (p3 : inR (σ.I 555 55)) : CC E mX9_crash d [aO 555] σ (RVI (fun y τ => (CRK σ τ 4) ∧ (y = cn (inM σ) (σ.I 555 52)))) := by sorry
end
section
/-! contracts: printed by tools/mk.py out of s98zzs_impP.py -/
set_option maxRecDepth 100000
set_option maxHeartbeats 1200000
/-! numbers out of bytes -/
def sx64 (x : Int) : Int := (x + 9223372036854775808) % 18446744073709551616 - 9223372036854775808
theorem sh_or (v b : Int) (h0 : 0 ≤ b) (h1 : b < 256) : b64or (b64shl v 8) b = sx64 (256 * v + b) := by
  unfold b64or
  rw [i64_shl]
  have k : (Int32.ofInt 8).toInt64 &&& 63 = (8 : Int64) := by decide
  rw [k]
  have e : (Int64.ofInt v <<< (8 : Int64) ||| Int64.ofInt b).toBitVec.toNat = ((256 * v + b) % 18446744073709551616).toNat := by
    have a1 : (Int64.ofInt v <<< (8 : Int64) ||| Int64.ofInt b).toBitVec = (BitVec.ofInt 64 v <<< 8) ||| BitVec.ofInt 64 b := by
      rfl
    rw [a1, BitVec.toNat_or, BitVec.toNat_shiftLeft, BitVec.toNat_ofInt, BitVec.toNat_ofInt]
    rw [show (b % ((2 ^ 64 : Nat) : Int)).toNat = b.toNat by omega]
    have a2 : (v % ((2 ^ 64 : Nat) : Int)).toNat <<< 8 % 2 ^ 64 = ((v % ((2 ^ 56 : Nat) : Int)).toNat) <<< 8 := by
      rw [Nat.shiftLeft_eq, Nat.shiftLeft_eq]; omega
    rw [a2, ← Nat.shiftLeft_add_eq_or_of_lt (show b.toNat < 2 ^ 8 by omega), Nat.shiftLeft_eq]
    omega
  have f : (Int64.ofInt v <<< (8 : Int64) ||| Int64.ofInt b).toInt = (Int64.ofInt v <<< (8 : Int64) ||| Int64.ofInt b).toBitVec.toInt := rfl
  rw [f, BitVec.toInt_eq_toNat_cond, e]
  unfold sx64
  by_cases z : 2 * ((256 * v + b) % 18446744073709551616).toNat < 2 ^ 64
  · rw [if_pos z]; omega
  · rw [if_neg z]; omega
def nuN (A : Int → Int) (b s : Int) : Nat → Int
  | 0 => s
  | k + 1 => b64or (b64shl (nuN A b s k) 8) (A (b + (k : Int)) % 256)
/-- n bytes as the program reads them -/
def nmF (A : Int → Int) (b n : Int) : Int := nuN A b (if n = 8 ∨ A b % 256 < 128 ∨ n < 4 then 0 else -1) n.toNat
theorem nu_s (A : Int → Int) (b s k : Int) (h : 0 ≤ k) : nuN A b s (k + 1).toNat = b64or (b64shl (nuN A b s k.toNat) 8) (A (b + k) % 256) := by
  rw [show (k + 1).toNat = k.toNat + 1 by omega]
  show b64or (b64shl (nuN A b s k.toNat) 8) (A (b + (k.toNat : Int)) % 256) = _
  rw [show ((k.toNat : Nat) : Int) = k by omega]
theorem nu_e (A : Int → Int) (b s k : Int) (h : 0 ≤ k) : nuN A b s (k + 1).toNat = sx64 (256 * nuN A b s k.toNat + A (b + k) % 256) := by
  rw [nu_s A b s k h]; exact sh_or _ _ (by omega) (by omega)
theorem nu_L (A : Int → Int) (b s : Int) (k : Nat) (h : inL s) : inL (nuN A b s k) := by
  cases k with
  | zero => exact h
  | succ k => exact or64_L _ _
theorem nm_1 (A : Int → Int) (b : Int) : nmF A b 1 = A b % 256 := by
  unfold nmF
  rw [if_pos (Or.inr (Or.inr (by decide)))]
  have z := nu_e A b 0 0 (Int.le_refl _)
  rw [show ((0 : Int) + 1).toNat = (1 : Int).toNat from rfl] at z
  rw [z, Int.add_zero]
  show sx64 (256 * 0 + A b % 256) = _
  unfold sx64; omega
theorem nm_2 (A : Int → Int) (b : Int) : nmF A b 2 = 256 * (A b % 256) + A (b + 1) % 256 := by
  unfold nmF
  rw [if_pos (Or.inr (Or.inr (by decide)))]
  have z := nu_e A b 0 0 (Int.le_refl _)
  have y := nu_e A b 0 1 (by decide)
  rw [show ((0 : Int) + 1).toNat = (1 : Int).toNat from rfl, Int.add_zero] at z
  rw [show ((1 : Int) + 1).toNat = (2 : Int).toNat from rfl, z] at y
  rw [y]
  show sx64 (256 * sx64 (256 * 0 + A b % 256) + A (b + 1) % 256) = _
  unfold sx64; omega
/-- a fault of an import -/
def FA (ρ τ : Sto) (a : Nat) : Prop := a = ρ.n ∧ τ = (ρ.al 112 7).wI a 0 (-13)
def BG (σ : Sto) : Prop := σ.n + 1 ≤ NC ∧ ssum σ + 7 ≤ NS
end
section
/-! contracts: printed by tools/mk.py out of s98zzt_impX.py -/
set_option maxRecDepth 100000
set_option maxHeartbeats 1200000
/-! what is read of a paper: the program -/
/-- k bytes further -/
def ADV (σ τ : Sto) (k : Int) : Prop := (∀ c i, ¬ (c = 214 ∧ i = 0) → τ.I c i = σ.I c i) ∧ τ.2 = σ.2 ∧ τ.I 214 0 = σ.I 214 0 + k
theorem ADV_0 (σ : Sto) : ADV σ σ 0 := ⟨fun _ _ _ => rfl, rfl, by omega⟩
theorem ADV_s {σ τ υ : Sto} {k j x : Int} (h : ADV σ τ k) (e : υ = τ.wI 214 0 (τ.I 214 0 + x)) (hj : j = k + x) : ADV σ υ j := by
  obtain ⟨a, b, c⟩ := h
  exact ⟨fun c i q => by rw [e, I_ot _ _ _ _ _ _ q]; exact a c i q, by rw [e]; exact b, by rw [e, I_same, c, hj]; omega⟩
theorem ADV_tr {σ τ υ : Sto} {k j : Int} (h : ADV σ τ k) (g : ADV τ υ j) : ADV σ υ (k + j) := by
  obtain ⟨a, b, c⟩ := h
  obtain ⟨a2, b2, c2⟩ := g
  exact ⟨fun c i q => by rw [a2 c i q]; exact a c i q, b2.trans b, by omega⟩
theorem BG_e {σ τ : Sto} (h : BG σ) (e : τ.2 = σ.2) : BG τ := by
  have e1 : τ.sh = σ.sh := congrArg (fun x => x.2.1) e
  have e2 : τ.n = σ.n := congrArg (fun x => x.2.2) e
  unfold BG; rw [ssum_k e1 e2, e2]; exact h
abbrev atX (σ : Sto) : Int := σ.I 214 0
abbrev byX (σ : Sto) : Int := σ.I 1 (σ.I 214 0) % 256
def SM1 (σ ρ : Sto) (lo hi : Int) : Prop := σ.I 214 0 + 1 ≤ σ.I 214 1 ∧ (lo ≤ byX σ ∧ byX σ ≤ hi) ∧ ADV σ ρ 1
def SM0 (σ ρ : Sto) (lo hi : Int) : Prop := (σ.I 214 1 < σ.I 214 0 + 1 ∧ ρ = σ) ∨ (σ.I 214 0 + 1 ≤ σ.I 214 1 ∧ ¬ (lo ≤ byX σ ∧ byX σ ≤ hi) ∧ ADV σ ρ 1)
def NU1 (σ ρ : Sto) (n : Int) : Prop := σ.I 214 0 + n ≤ σ.I 214 1 ∧ ADV σ ρ n
def NU0 (σ ρ : Sto) (n : Int) : Prop := σ.I 214 1 < σ.I 214 0 + n ∧ ρ = σ

theorem sp_X7_need {E : XE} {d : Nat} {σ : Sto} {x1 : Int} (hd : 7 ≤ d) (hL : Lay σ)  (p0 : 0 ≤ x1 ∧ x1 ≤ 1) (p1 : BG σ) : CC E mX7_need d [aO 214, aI (x1)] σ (RTV (fun τ => (x1 ≠ 0) ∧ (τ = σ)) (fun a τ => (SF σ τ) ∧ (x1 = 0) ∧ (FA σ τ a))) := by sorry
theorem sp_X7_hole {E : XE} {d : Nat} {σ : Sto}  (hd : 1 ≤ d) (hL : Lay σ)  (p0 : 0 ≤ σ.I 0 39 ∧ σ.I 0 39 < 600) : CC E mX7_hole d [aO 214] σ (RV (fun τ => (RD σ τ (fun c i => if at2 c i 42 (σ.I 0 39) then σ.I 0 31 else if at2 c i 43 (σ.I 0 39) then 0 else if at2 c i 44 (σ.I 0 39) then -1 else if at2 c i 45 (σ.I 0 39) then 2147483647 else if at2 c i 46 (σ.I 0 39) then 2147483647 else if at2 c i 47 (σ.I 0 39) then 0 else if at2 c i 0 39 then σ.I 0 39 + 1 else σ.I c i)))) := by sorry
theorem sp_X7_number {E : XE} {d : Nat} {σ : Sto} {x1 : Int} (hd : 8 ≤ d) (hL : Lay σ)  (p0 : 1 ≤ x1 ∧ x1 ≤ 8) (p1 : 0 ≤ σ.I 214 0 ∧ σ.I 214 0 ≤ σ.I 214 1 ∧ σ.I 214 1 ≤ 30000) (p2 : BG σ) : CC E mX7_number d [aO 214, aI (x1)] σ (RTL (fun y τ => (y = nmF (σ.I 1) (σ.I 214 0) x1) ∧ (NU1 σ τ x1)) (fun a τ => (SF σ τ) ∧ (∃ ρ, NU0 σ ρ x1 ∧ FA ρ τ a))) := by sorry
theorem sp_X7_small {E : XE} {d : Nat} {σ : Sto} {x1 : Int} {x2 : Int} (hd : 9 ≤ d) (hL : Lay σ)  (p0 : 0 ≤ σ.I 214 0 ∧ σ.I 214 0 ≤ σ.I 214 1 ∧ σ.I 214 1 ≤ 30000) (p1 : inR x1) (p2 : inR x2) (p3 : BG σ) : CC E mX7_small d [aO 214, aI (x1), aI (x2)] σ (RTI (fun y τ => (y = byX σ) ∧ (SM1 σ τ x1 x2)) (fun a τ => (SF σ τ) ∧ (∃ ρ, SM0 σ ρ x1 x2 ∧ FA ρ τ a))) := by sorry
/-- a row of letters comes to the rows at o -/
def RWA (ρ τ : Sto) (o : Nat) (n : Int) : Prop := ∃ υ, RD ρ υ (fun c i => if rg c i (o + 1) (20 * ρ.I o 2) (20 * ρ.I o 2 + n) then ρ.I 1 (ρ.I 214 0 + (i - 20 * ρ.I o 2)) else if at2 c i (o + 2) (ρ.I o 2) then n else if at2 c i o 2 then ρ.I o 2 + 1 else ρ.I c i) ∧ τ = υ.wI 214 0 (υ.I 214 0 + n)
def lrX (ρ : Sto) (n : Int) : Prop := ρ.I 214 0 + n ≤ ρ.I 214 1 ∧ (1 ≤ n ∧ n ≤ 20) ∧ letA (ρ.I 1) (ρ.I 214 0) n
def RW1 (σ τ : Sto) (o : Nat) : Prop := ∃ ρ, SM1 σ ρ 1 20 ∧ lrX ρ (byX σ) ∧ RWA ρ τ o (byX σ)
def RW0 (σ ρ : Sto) : Prop := SM0 σ ρ 1 20 ∨ (SM1 σ ρ 1 20 ∧ ¬ lrX ρ (byX σ))

theorem sp_X7_row {E : XE} {d : Nat} {σ : Sto} {o1 : Nat} (hd : 10 ≤ d) (hL : Lay σ) (ho1 : At11 σ o1) (p0 : 0 ≤ σ.I 214 0 ∧ σ.I 214 0 ≤ σ.I 214 1 ∧ σ.I 214 1 ≤ 30000) (p1 : 675 ≤ o1) (p2 : 0 ≤ σ.I o1 2 ∧ σ.I o1 2 < 20) (p3 : BG σ) : CC E mX7_row d [aO 214, aO o1] σ (RTV (fun τ => (RW1 σ τ o1)) (fun a τ => (SF σ τ) ∧ (∃ ρ, RW0 σ ρ ∧ FA ρ τ a))) := by sorry
end
section
/-! contracts: printed by tools/mk.py out of s98zzu_valX.py -/
set_option maxRecDepth 100000
set_option maxHeartbeats 1600000
/-! a value is read: the program -/
def VPX (σ : Sto) : Prop := ((0 ≤ σ.I 0 31 ∧ σ.I 0 31 ≤ σ.I 0 20) ∧ (σ.I 0 20 ≤ 6000 ∧ σ.I 0 20 ≤ σ.I 0 31 + 24) ∧ (0 ≤ σ.I 0 22 ∧ σ.I 0 22 ≤ 60000) ∧ (0 ≤ σ.I 0 29 ∧ 0 ≤ σ.I 0 30) ∧ σ.I 0 29 + σ.I 0 30 ≤ 24000) ∧ ((0 ≤ σ.I 0 9 ∧ σ.I 0 9 ≤ 12) ∧ σ.I 0 4 ≤ 6 ∧ ∀ f, 0 ≤ f → f < σ.I 0 9 → σ.I 16 f = 0 → 0 ≤ σ.I 17 f ∧ σ.I 17 f < σ.I 0 4) ∧ (AN σ ∧ ANX σ ∧ bd_0_20 σ 12 250) ∧ TC σ ∧ TU σ ∧ (0 ≤ σ.I 18 7 ∧ σ.I 18 7 ≤ 30000) ∧ bd_0_20 σ 21 36500 ∧ bd_0_12 σ 20 36500
theorem VPX_a {σ ρ : Sto} {k : Int} (h : ADV σ ρ k) (p : VPX σ) : VPX ρ := by
  obtain ⟨q1, ⟨q2, q3, q4⟩, ⟨a1, a2, a3⟩, t1, t2, t3, t4, t5⟩ := p
  have e : ∀ c, c ≠ 214 → ρ.I c = σ.I c := fun c z => funext fun i => h.1 c i (fun w => z w.1)
  have r := h.2.1
  refine ⟨by rw [e 0 (by decide)]; exact q1, by rw [e 0 (by decide), e 16 (by decide), e 17 (by decide)]; exact ⟨q2, q3, q4⟩, ⟨AN_k a1 (congrArg (fun x => x.1) r) (congrArg (fun x => x.2.1) r) (congrArg (fun x => x.2.2) r) (by rw [e 0 (by decide)]), ANX_e2 a2 a1 r (by rw [e 0 (by decide)]) (fun c z => e c (by omega)), bd_0_20_eq a3 (e 12 (by decide))⟩, TC_e t1 (fun c i x y => congrFun (e c (by omega)) i), TU_eq t2 (fun c x y => e c (by omega)), by rw [e 18 (by decide)]; exact t3, bd_0_20_eq t4 (e 21 (by decide)), bd_0_12_eq t5 (e 20 (by decide))⟩
abbrev vkX (σ : Sto) : Int := σ.I 16 (byX σ)
def vNX (σ : Sto) : Int := nmF (σ.I 1) (σ.I 214 0 + 1) 2
def vVX (σ : Sto) : Int := nmF (σ.I 1) (σ.I 214 0 + 1) 8
def nearI (x : Int) : Prop := -1000000 ≤ x ∧ x ≤ 1000000
def smI (x : Int) : Prop := -1000 ≤ x ∧ x ≤ 1000
def okTX (σ : Sto) : Prop := (vNX σ ≤ 1000 ∧ (vkX σ = 0 ∨ 0 < vNX σ)) ∧ σ.I 214 0 + 3 + vNX σ ≤ σ.I 214 1
def okPX (v : Int) : Prop := nearI (w32 (b64shr v 32)) ∧ nearI (w32 v)
def okRX (v : Int) : Prop := smI (sx16 (w32 (b64shr v 48))) ∧ smI (sx16 (w32 (b64shr v 32))) ∧ smI (sx16 (w32 (b64shr v 16))) ∧ smI (sx16 (w32 v))
def okNX (σ : Sto) : Prop := (vkX σ = 3 → okPX (vVX σ)) ∧ (vkX σ = 4 → okRX (vVX σ))
def mayT (ρ : Sto) (f x n : Int) : Prop := ρ.I 0 20 - ρ.I 0 31 < 24 ∧ ρ.I 0 20 < 6000 ∧ ρ.I 0 22 + n ≤ 60000 ∧ ρ.I 0 29 + ρ.I 0 30 + (lTX ρ f (ρ.I 1) x n).1 ≤ 24000
def flX (ρ : Sto) : Prop := ρ.I 0 20 - ρ.I 0 31 = 24 ∨ ρ.I 0 20 = 6000
def fdX (σ : Sto) : Prop := σ.I 214 0 + 1 ≤ σ.I 214 1 ∧ byX σ < σ.I 0 9
/-- a text comes -/
def TXV (ρ τ : Sto) (f n : Int) : Prop := ∃ α β, mayT ρ f (ρ.I 214 0) n ∧ TXX ρ α f (ρ.I 1) (ρ.I 214 0) n (lTX ρ f (ρ.I 1) (ρ.I 214 0) n) ∧ RD α β (fun c i => if at2 c i 26 (α.I 0 20) then f else if at2 c i 0 20 then α.I 0 20 + 1 else α.I c i) ∧ τ = β.wI 214 0 (β.I 214 0 + n)
/-- a plain value comes -/
def PL5 (ρ τ : Sto) (f v : Int) : Prop := ¬ flX ρ ∧ RD ρ τ (fun c i => if (¬ (ρ.I 0 20 - ρ.I 0 31 = 24 ∨ ρ.I 0 20 = 6000)) then (if at2 c i 26 (ρ.I 0 20) then f else if at2 c i 30 (ρ.I 0 20) then v else if at2 c i 28 (ρ.I 0 20) then ρ.I 0 22 else if at2 c i 29 (ρ.I 0 20) then 0 else if at2 c i 31 (ρ.I 0 20) then ρ.I 0 29 else if at2 c i 32 (ρ.I 0 20) then 0 else if at2 c i 0 20 then ρ.I 0 20 + 1 else ρ.I c i) else ρ.I c i)
abbrev kTX (σ : Sto) : Prop := vkX σ = 0 ∨ vkX σ = 1
def VAL1 (σ τ : Sto) : Prop := fdX σ ∧ ((kTX σ ∧ σ.I 214 0 + 3 ≤ σ.I 214 1 ∧ okTX σ ∧ ∃ ρ, ADV σ ρ 3 ∧ TXV ρ τ (byX σ) (vNX σ)) ∨ (¬ kTX σ ∧ σ.I 214 0 + 9 ≤ σ.I 214 1 ∧ okNX σ ∧ ∃ ρ, ADV σ ρ 9 ∧ PL5 ρ τ (byX σ) (vVX σ)))
/-- it fails, at ρ -/
def VAL0 (σ ρ : Sto) : Prop := (¬ fdX σ ∧ (ρ = σ ∨ ADV σ ρ 1)) ∨ (fdX σ ∧ kTX σ ∧ ¬ (σ.I 214 0 + 3 ≤ σ.I 214 1) ∧ ADV σ ρ 1) ∨ (fdX σ ∧ kTX σ ∧ σ.I 214 0 + 3 ≤ σ.I 214 1 ∧ ((¬ okTX σ ∧ ADV σ ρ 3) ∨ (okTX σ ∧ ∃ α, ADV σ α 3 ∧ ¬ mayT α (byX σ) (α.I 214 0) (vNX σ) ∧ KXt 10 α ρ ∧ bd_0_20 ρ 12 250))) ∨ (fdX σ ∧ ¬ kTX σ ∧ ¬ (σ.I 214 0 + 9 ≤ σ.I 214 1) ∧ ADV σ ρ 1) ∨ (fdX σ ∧ ¬ kTX σ ∧ σ.I 214 0 + 9 ≤ σ.I 214 1 ∧ ((¬ okNX σ ∧ ADV σ ρ 9) ∨ (okNX σ ∧ flX σ ∧ ADV σ ρ 9)))

theorem sp_X7_value {E : XE} {d : Nat} {σ : Sto}  (hd : 22 ≤ d) (hL : Lay σ)  (p0 : 0 ≤ σ.I 214 0 ∧ σ.I 214 0 ≤ σ.I 214 1 ∧ σ.I 214 1 ≤ 30000) (p1 : VPX σ) (p2 : BG σ) : CC E mX7_value d [aO 214] σ (RTV (fun τ => (VAL1 σ τ)) (fun a τ => (SF σ τ) ∧ (∃ ρ, VAL0 σ ρ ∧ FA ρ τ a))) := by sorry
end
section
/-! contracts: printed by tools/mk.py out of s98zzv_objX.py -/
set_option maxRecDepth 100000
set_option maxHeartbeats 1600000
/-! an object is read: the program -/
def RPT (R : Sto → Sto → Prop) : Nat → Sto → Sto → Prop
  | 0, σ, τ => τ = σ
  | n + 1, σ, τ => ∃ ρ, RPT R n σ ρ ∧ R ρ τ
theorem RPT_s {R : Sto → Sto → Prop} {σ ρ τ : Sto} {k : Int} (h0 : 0 ≤ k) (h : RPT R k.toNat σ ρ) (g : R ρ τ) : RPT R (k + 1).toNat σ τ := by
  rw [show (k + 1).toNat = k.toNat + 1 by omega]; exact ⟨ρ, h, g⟩
theorem nm_4 (A : Int → Int) (b : Int) : -2147483648 ≤ nmF A b 4 ∧ nmF A b 4 ≤ 2147483647 := by
  have z0 : ∀ s, nuN A b s (0 : Int).toNat = s := fun s => rfl
  have z1 := fun s => nu_e A b s 0 (by decide)
  have z2 := fun s => nu_e A b s 1 (by decide)
  have z3 := fun s => nu_e A b s 2 (by decide)
  have z4 := fun s => nu_e A b s 3 (by decide)
  simp only [show ((0 : Int) + 1) = 1 from rfl, show ((1 : Int) + 1) = 2 from rfl, show ((2 : Int) + 1) = 3 from rfl, show ((3 : Int) + 1) = 4 from rfl, Int.add_zero] at z1 z2 z3 z4
  unfold nmF
  by_cases q : (4 : Int) = 8 ∨ A b % 256 < 128 ∨ (4 : Int) < 4
  · rw [if_pos q, z4, z3, z2, z1, z0]; unfold sx64; omega
  · rw [if_neg q, z4, z3, z2, z1, z0]; unfold sx64; omega
abbrev HOL (σ τ : Sto) : Prop := RD σ τ (fun c i => if at2 c i 42 (σ.I 0 39) then σ.I 0 31 else if at2 c i 43 (σ.I 0 39) then 0 else if at2 c i 44 (σ.I 0 39) then -1 else if at2 c i 45 (σ.I 0 39) then 2147483647 else if at2 c i 46 (σ.I 0 39) then 2147483647 else if at2 c i 47 (σ.I 0 39) then 0 else if at2 c i 0 39 then σ.I 0 39 + 1 else σ.I c i)
def ENT (σ τ : Sto) (p : Int) : Prop := ∃ υ, (RD σ υ (fun c i => if c = 22 ∨ c = 23 ∨ c = 37 ∨ c = 34 then υ.I c i else if at2 c i 42 (σ.I 0 39) then σ.I 0 31 else if at2 c i 43 (σ.I 0 39) then σ.I 0 20 - σ.I 0 31 else if at2 c i 44 (σ.I 0 39) then p else if at2 c i 45 (σ.I 0 39) then σ.I 0 41 + 1 else if at2 c i 46 (σ.I 0 39) then 2147483647 else if at2 c i 47 (σ.I 0 39) then 1 else if rg c i 27 (σ.I 0 31) (σ.I 0 20) then (σ.I 0 39) else if at2 c i 0 31 then (σ.I 0 20) else if at2 c i 0 32 then σ.I 18 7 else σ.I c i) ∧ PT υ (σ.I 0 29) ∧ PW υ (σ.I 0 20)) ∧ τ = υ.wI 0 39 (υ.I 0 39 + 1)
/-- what every step of an import needs -/
def NIX (ρ : Sto) : Prop := (0 ≤ ρ.I 214 0 ∧ ρ.I 214 0 ≤ ρ.I 214 1 ∧ ρ.I 214 1 ≤ 30000) ∧ BG ρ ∧ VPX ρ ∧ tre ρ 44 (ρ.I 0 39) ∧ (0 ≤ ρ.I 0 39 ∧ ρ.I 0 39 ≤ 600) ∧ (0 ≤ ρ.I 0 41 ∧ ρ.I 0 41 ≤ 1000000) ∧ PT ρ (tkAt ρ (ρ.I 0 31)) ∧ PW ρ (ρ.I 0 31) ∧ VL ρ (ρ.I 0 31) (ρ.I 0 20)
/-- a property that an import keeps -/
def CLX (I : Sto → Prop) : Prop := ∀ ρ, I ρ → NIX ρ ∧ (∀ τ, VAL1 ρ τ → I τ) ∧ (∀ τ k, 0 ≤ k → ρ.I 214 0 + k ≤ ρ.I 214 1 → ADV ρ τ k → I τ) ∧ (∀ τ, ρ.I 0 39 < 600 → HOL ρ τ → I τ) ∧ (∀ τ p, ρ.I 0 39 < 600 → (p = -1 ∨ (0 ≤ p ∧ p < ρ.I 0 39 ∧ ρ.I 47 p ≠ 0)) → dp (ρ.I 44) p + 1 ≤ 10 → ENT ρ τ p → I τ)
def oN (σ : Sto) : Int := nmF (σ.I 1) (σ.I 214 0) 4
def paO (σ : Sto) (p n : Int) : Prop := p = -1 ∨ (0 ≤ p ∧ p < n ∧ σ.I 47 p ≠ 0)
def OB2 (σ τ : Sto) : Prop := ∃ α, NU1 σ α 4 ∧ RPT HOL (τ.I 0 39 - σ.I 0 39).toNat α τ
def nuO (σ : Sto) : Prop := σ.I 0 39 ≤ oN σ ∧ oN σ < 600
def OB3 (σ τ : Sto) (p : Int) : Prop := ∃ α, OB2 σ α ∧ α.I 0 39 = oN σ ∧ NU1 α τ 4 ∧ p = oN α
def OB4 (σ τ : Sto) (p n : Int) : Prop := ∃ α, OB3 σ α p ∧ paO α p (oN σ) ∧ dp (α.I 44) p + 1 ≤ 10 ∧ SM1 α τ 0 24 ∧ n = byX α
def OB5 (σ τ : Sto) (p n k : Int) : Prop := ∃ α, OB4 σ α p n ∧ RPT VAL1 k.toNat α τ
def OBJ1 (σ τ : Sto) : Prop := nuO σ ∧ ∃ p n ρ, OB5 σ ρ p n n ∧ ENT ρ τ p
def OBJ0 (σ ρ : Sto) : Prop := NU0 σ ρ 4 ∨ (¬ nuO σ ∧ NU1 σ ρ 4) ∨ (nuO σ ∧ ((∃ α, OB2 σ α ∧ α.I 0 39 = oN σ ∧ NU0 α ρ 4) ∨ (∃ p, OB3 σ ρ p ∧ ¬ (paO ρ p (oN σ) ∧ dp (ρ.I 44) p + 1 ≤ 10)) ∨ (∃ p α, OB3 σ α p ∧ paO α p (oN σ) ∧ dp (α.I 44) p + 1 ≤ 10 ∧ SM0 α ρ 0 24) ∨ (∃ p n k α, OB5 σ α p n k ∧ k < n ∧ VAL0 α ρ)))
/-- a value leaves objects alone -/
theorem VAL1_o {σ τ : Sto} (h : VAL1 σ τ) {c : Nat} {i : Int} (q : (c = 0 ∧ i = 39) ∨ c = 44 ∨ c = 47) : τ.I c i = σ.I c i := by
  obtain ⟨_, ⟨_, _, _, ρ, a, α, β, _, x, b, e⟩ | ⟨_, _, _, ρ, a, _, b⟩⟩ := h
  · rw [e, I_ot _ _ _ _ _ _ (by omega), b.2]
    show (if _ then _ else if _ then _ else _) = _
    rw [if_neg (fun z => by have := z.1; omega), if_neg (fun z => by have := z.1; have := z.2; omega), x.1.2 c i (by unfold wsTX at2; omega)]
    exact a.1 c i (by omega)
  · rw [b.2]
    show (if _ then _ else _) = _
    by_cases y : ¬ (ρ.I 0 20 - ρ.I 0 31 = 24 ∨ ρ.I 0 20 = 6000)
    · rw [if_pos y, if_neg (fun z => by have := z.1; omega), if_neg (fun z => by have := z.1; omega), if_neg (fun z => by have := z.1; omega), if_neg (fun z => by have := z.1; omega), if_neg (fun z => by have := z.1; omega), if_neg (fun z => by have := z.1; omega), if_neg (fun z => by have := z.1; have := z.2; omega)]
      exact a.1 c i (by omega)
    · rw [if_neg y]; exact a.1 c i (by omega)
end
section
/-! contracts: printed by tools/mk.py out of s98zzw_objW.py -/
set_option maxRecDepth 100000
set_option maxHeartbeats 1600000
theorem sp_X7_object {E : XE} {d : Nat} {σ : Sto} {I : Sto → Prop} (hd : 23 ≤ d) (hL : Lay σ)  (p0 : CLX I) (p1 : I σ) : CC E mX7_object d [aO 214] σ (RTV (fun τ => (OBJ1 σ τ)) (fun a τ => (SF σ τ) ∧ (∃ ρ, OBJ0 σ ρ ∧ FA ρ τ a))) := by sorry
end
section
/-! contracts: printed by tools/mk.py out of s98zzx_rdM.py -/
set_option maxRecDepth 100000
set_option maxHeartbeats 1600000
/-! rows and fields are read: the model -/
def ADM (σ τ : Sto) (k : Int) : Prop := (∀ c i, ¬ (c = 555 ∧ i = 76) → τ.I c i = σ.I c i) ∧ τ.2 = σ.2 ∧ τ.I 555 76 = σ.I 555 76 + k
theorem ADM_w {σ τ : Sto} {k : Int} (e : τ = σ.wI 555 76 (σ.I 555 76 + k)) : ADM σ τ k := ⟨fun c i q => by rw [e, I_ot _ _ _ _ _ _ q], by rw [e]; rfl, by rw [e, I_same]⟩
theorem ADM_0 (σ : Sto) : ADM σ σ 0 := ⟨fun _ _ _ => rfl, rfl, by omega⟩
theorem ADM_tr {σ τ υ : Sto} {k j : Int} (h : ADM σ τ k) (g : ADM τ υ j) : ADM σ υ (k + j) := by
  obtain ⟨a, b, c⟩ := h
  obtain ⟨a2, b2, c2⟩ := g
  exact ⟨fun c i q => by rw [a2 c i q]; exact a c i q, b2.trans b, by omega⟩
def byM (σ : Sto) : Int := σ.I 557 (σ.I 555 76) % 256
def CN1 (σ ρ : Sto) (m : Int) : Prop := σ.I 555 76 + 1 ≤ σ.I 555 77 ∧ byM σ ≤ m ∧ ADM σ ρ 1
def CN0 (σ ρ : Sto) (m : Int) : Prop := (σ.I 555 77 < σ.I 555 76 + 1 ∧ ρ = σ) ∨ (σ.I 555 76 + 1 ≤ σ.I 555 77 ∧ m < byM σ ∧ ADM σ ρ 1)
theorem CN1_i {σ τ : Sto} {m y : Int} (h : y = gtF (σ.I 557) (σ.I 555 76) 1 % 256 ∧ y ≤ m) (e : τ = σ.wI 555 76 (σ.I 555 76 + 1)) (s : σ.I 555 76 + 1 ≤ σ.I 555 77) : y = byM σ ∧ CN1 σ τ m := by
  have b : y = byM σ := h.1
  exact ⟨b, s, by omega, ADM_w e⟩
theorem CN0_i {σ τ : Sto} {m : Int} (h : (σ.I 555 77 < σ.I 555 76 + 1 ∧ τ = σ) ∨ (σ.I 555 76 + 1 ≤ σ.I 555 77 ∧ m < gtF (σ.I 557) (σ.I 555 76) 1 % 256 ∧ τ = σ.wI 555 76 (σ.I 555 76 + 1))) : CN0 σ τ m := by
  rcases h with ⟨a, b⟩ | ⟨a, b, c⟩
  · exact Or.inl ⟨a, b⟩
  · exact Or.inr ⟨a, b, ADM_w c⟩
def lrM (ρ : Sto) (n : Int) : Prop := ρ.I 555 76 + n ≤ ρ.I 555 77 ∧ (1 ≤ n ∧ n ≤ 20) ∧ letA (ρ.I 557) (ρ.I 555 76) n
def TLA (ρ τ : Sto) (k n : Int) : Prop := ∃ υ, RD ρ υ (fun c i => if at2 c i 564 k then n else if rg c i 563 (20 * k) (20 * k + n) then ρ.I 557 (ρ.I 555 76 + (i - 20 * k)) else ρ.I c i) ∧ τ = υ.wI 555 76 (υ.I 555 76 + n)
def TR1 (σ τ : Sto) (k : Int) : Prop := ∃ ρ, CN1 σ ρ 20 ∧ lrM ρ (byM σ) ∧ TLA ρ τ k (byM σ)
def TR0 (σ ρ : Sto) : Prop := CN0 σ ρ 20 ∨ (CN1 σ ρ 20 ∧ ¬ lrM ρ (byM σ))

theorem sp_X9_toldRow {E : XE} {d : Nat} {σ : Sto} {x1 : Int} (hd : 5 ≤ d) (hL : Lay σ)  (p0 : 0 ≤ x1 ∧ x1 < 360) (p1 : 0 ≤ σ.I 555 76 ∧ σ.I 555 76 ≤ σ.I 555 77 ∧ σ.I 555 77 ≤ 30000) : CC E mX9_toldRow d [aO 555, aI (x1)] σ (RTI (fun y τ => (y = byM σ) ∧ (TR1 σ τ x1)) (fun a τ => (SF σ τ) ∧ (a = 556) ∧ (TR0 σ τ))) := by sorry
def fkO (ρ : Sto) (f : Int) : Prop := if ρ.I 577 f = 0 then 0 ≤ ρ.I 578 f ∧ ρ.I 578 f < ρ.I 555 3 else ρ.I 578 f = 0
def RF2 (σ ρ : Sto) (f : Int) : Prop := ∃ α, CN1 σ α 4 ∧ CN1 (α.wI 577 f (byM σ)) ρ 6
def RF1 (σ τ : Sto) (f : Int) : Prop := ∃ ρ υ, RF2 σ ρ f ∧ υ = ρ.wI 578 f (ρ.I 557 (ρ.I 555 76 - 1) % 256) ∧ fkO υ f ∧ τ = υ.wI 555 27 (υ.I 555 27 + 1)
def RF0 (σ ρ : Sto) (f : Int) : Prop := CN0 σ ρ 4 ∨ (∃ α, CN1 σ α 4 ∧ CN0 (α.wI 577 f (byM σ)) ρ 6) ∨ (∃ α, RF2 σ α f ∧ ρ = α.wI 578 f (α.I 557 (α.I 555 76 - 1) % 256) ∧ ¬ fkO ρ f)

theorem sp_X9_readField {E : XE} {d : Nat} {σ : Sto} {x1 : Int} (hd : 5 ≤ d) (hL : Lay σ)  (p0 : 0 ≤ x1 ∧ x1 < 12) (p1 : 0 ≤ σ.I 555 76 ∧ σ.I 555 76 ≤ σ.I 555 77 ∧ σ.I 555 77 ≤ 30000) (p2 : 0 ≤ σ.I 555 27 ∧ σ.I 555 27 < 1000) : CC E mX9_readField d [aO 555, aI (x1)] σ (RTV (fun τ => (RF1 σ τ x1)) (fun a τ => (SF σ τ) ∧ (a = 556) ∧ (RF0 σ τ x1))) := by sorry
end
section
/-! contracts: printed by tools/mk.py out of s98zzy_valM.py -/
set_option maxRecDepth 100000
set_option maxHeartbeats 1600000
/-! a value is read: the model -/
def TOF (ρ τ : Sto) (y f x n : Int) : Prop := ((¬ (((0 ≤ f ∧ f < ρ.I 555 27 ∧ ρ.I 577 f = 0) ∨ ((0 ≤ f ∧ f < ρ.I 555 27 ∧ ρ.I 577 f = 1) ∧ n ≠ 0)) ∧ n ≤ 1000) ∧ y = -1 ∧ τ = ρ) ∨ ((((0 ≤ f ∧ f < ρ.I 555 27 ∧ ρ.I 577 f = 0) ∨ ((0 ≤ f ∧ f < ρ.I 555 27 ∧ ρ.I 577 f = 1) ∧ n ≠ 0)) ∧ n ≤ 1000) ∧ (ρ.I 555 30 - ρ.I 555 45 = 24 ∨ 60000 < ρ.I 555 38 + n ∨ 24000 < ρ.I 555 44 + (lT ρ f (ρ.I 557) x n).1 ∨ ρ.I 555 30 = 6000) ∧ y = -3 ∧ KB ρ τ) ∨ ((((0 ≤ f ∧ f < ρ.I 555 27 ∧ ρ.I 577 f = 0) ∨ ((0 ≤ f ∧ f < ρ.I 555 27 ∧ ρ.I 577 f = 1) ∧ n ≠ 0)) ∧ n ≤ 1000) ∧ ¬ (ρ.I 555 30 - ρ.I 555 45 = 24 ∨ 60000 < ρ.I 555 38 + n ∨ 24000 < ρ.I 555 44 + (lT ρ f (ρ.I 557) x n).1 ∨ ρ.I 555 30 = 6000) ∧ y = ρ.I 555 30 + 1 - ρ.I 555 45 ∧ TXM ρ τ f (ρ.I 557) x n (lT ρ f (ρ.I 557) x n))) ∧ (bd_0_20 τ 573 300) ∧ (bd_0_20 τ 587 24000)
def NUF (ρ τ : Sto) (y f v : Int) : Prop := (y = if ¬ (0 ≤ f ∧ f < ρ.I 555 27 ∧ ρ.I 577 f = 2) then -1 else if (ρ.I 555 30 - ρ.I 555 45 = 24 ∨ ρ.I 555 30 = 6000) then -3 else ρ.I 555 30 + 1 - ρ.I 555 45) ∧ (RD ρ τ (fun c i => if ((0 ≤ f ∧ f < ρ.I 555 27 ∧ ρ.I 577 f = 2) ∧ ¬ (ρ.I 555 30 - ρ.I 555 45 = 24 ∨ ρ.I 555 30 = 6000)) then (if at2 c i 579 (ρ.I 555 30) then f else if at2 c i 580 (ρ.I 555 30) then ρ.I 555 38 else if at2 c i 581 (ρ.I 555 30) then 0 else if at2 c i 582 (ρ.I 555 30) then ρ.I 555 44 else if at2 c i 582 (ρ.I 555 30 + 1) then ρ.I 555 44 else if at2 c i 583 (ρ.I 555 30) then v else if at2 c i 555 30 then ρ.I 555 30 + 1 else ρ.I c i) else ρ.I c i))
def PLF (ρ τ : Sto) (y f u v : Int) : Prop := (y = if ¬ ((0 ≤ f ∧ f < ρ.I 555 27 ∧ ρ.I 577 f = 3) ∧ (-1000000 ≤ u ∧ u ≤ 1000000) ∧ (-1000000 ≤ v ∧ v ≤ 1000000)) then -1 else if (ρ.I 555 30 - ρ.I 555 45 = 24 ∨ ρ.I 555 30 = 6000) then -3 else ρ.I 555 30 + 1 - ρ.I 555 45) ∧ (RD ρ τ (fun c i => if (((0 ≤ f ∧ f < ρ.I 555 27 ∧ ρ.I 577 f = 3) ∧ (-1000000 ≤ u ∧ u ≤ 1000000) ∧ (-1000000 ≤ v ∧ v ≤ 1000000)) ∧ ¬ (ρ.I 555 30 - ρ.I 555 45 = 24 ∨ ρ.I 555 30 = 6000)) then (if at2 c i 579 (ρ.I 555 30) then f else if at2 c i 580 (ρ.I 555 30) then ρ.I 555 38 else if at2 c i 581 (ρ.I 555 30) then 0 else if at2 c i 582 (ρ.I 555 30) then ρ.I 555 44 else if at2 c i 582 (ρ.I 555 30 + 1) then ρ.I 555 44 else if at2 c i 583 (ρ.I 555 30) then 0 else if at2 c i 555 30 then ρ.I 555 30 + 1 else if at2 c i 584 (4 * ρ.I 555 30 + 0) then u else if at2 c i 584 (4 * ρ.I 555 30 + 1) then v else if at2 c i 584 (4 * ρ.I 555 30 + 2) then 0 else if at2 c i 584 (4 * ρ.I 555 30 + 3) then 0 else ρ.I c i) else ρ.I c i))
def ROF (ρ τ : Sto) (y f u v w z : Int) : Prop := (y = if ¬ ((0 ≤ f ∧ f < ρ.I 555 27 ∧ ρ.I 577 f = 4) ∧ (-1000 ≤ u ∧ u ≤ 1000) ∧ (-1000 ≤ v ∧ v ≤ 1000) ∧ (-1000 ≤ w ∧ w ≤ 1000) ∧ (-1000 ≤ z ∧ z ≤ 1000)) then -1 else if (ρ.I 555 30 - ρ.I 555 45 = 24 ∨ ρ.I 555 30 = 6000) then -3 else ρ.I 555 30 + 1 - ρ.I 555 45) ∧ (RD ρ τ (fun c i => if (((0 ≤ f ∧ f < ρ.I 555 27 ∧ ρ.I 577 f = 4) ∧ (-1000 ≤ u ∧ u ≤ 1000) ∧ (-1000 ≤ v ∧ v ≤ 1000) ∧ (-1000 ≤ w ∧ w ≤ 1000) ∧ (-1000 ≤ z ∧ z ≤ 1000)) ∧ ¬ (ρ.I 555 30 - ρ.I 555 45 = 24 ∨ ρ.I 555 30 = 6000)) then (if at2 c i 579 (ρ.I 555 30) then f else if at2 c i 580 (ρ.I 555 30) then ρ.I 555 38 else if at2 c i 581 (ρ.I 555 30) then 0 else if at2 c i 582 (ρ.I 555 30) then ρ.I 555 44 else if at2 c i 582 (ρ.I 555 30 + 1) then ρ.I 555 44 else if at2 c i 583 (ρ.I 555 30) then 0 else if at2 c i 555 30 then ρ.I 555 30 + 1 else if at2 c i 584 (4 * ρ.I 555 30 + 0) then u else if at2 c i 584 (4 * ρ.I 555 30 + 1) then v else if at2 c i 584 (4 * ρ.I 555 30 + 2) then w else if at2 c i 584 (4 * ρ.I 555 30 + 3) then z else ρ.I c i) else ρ.I c i))
def VPM (σ : Sto) : Prop := ((0 ≤ σ.I 555 45 ∧ σ.I 555 45 ≤ σ.I 555 30) ∧ (σ.I 555 30 ≤ 6000 ∧ σ.I 555 30 ≤ σ.I 555 45 + 24) ∧ (0 ≤ σ.I 555 38 ∧ σ.I 555 38 ≤ 60000) ∧ 0 ≤ σ.I 555 44 ∧ σ.I 555 44 ≤ 24000) ∧ ((0 ≤ σ.I 555 27 ∧ σ.I 555 27 ≤ 12) ∧ ∀ f, 0 ≤ f → f < σ.I 555 27 → σ.I 577 f = 0 → 0 ≤ σ.I 578 f ∧ σ.I 578 f < 6) ∧ AC σ ∧ bd_0_20 σ 573 300 ∧ bd_0_20 σ 587 24000
theorem VPM_a {σ ρ : Sto} {k : Int} (h : ADM σ ρ k) (p : VPM σ) : VPM ρ := by
  obtain ⟨q1, q2, q3, q4, q5⟩ := p
  have e : ∀ c, c ≠ 555 → ρ.I c = σ.I c := fun c z => funext fun i => h.1 c i (fun w => z w.1)
  have f : ∀ i, i ≠ 76 → ρ.I 555 i = σ.I 555 i := fun i z => h.1 555 i (fun w => z w.2)
  refine ⟨by rw [f 45 (by decide), f 30 (by decide), f 38 (by decide), f 44 (by decide)]; exact q1, by rw [f 27 (by decide), e 577 (by decide), e 578 (by decide)]; exact q2, ?_, bd_0_20_eq q4 (e 573 (by decide)), bd_0_20_eq q5 (e 587 (by decide))⟩
  unfold AC at q3 ⊢
  unfold bd_0_1 bd_0_2 bd_0_5 bd_0_20 at *
  rw [e 558 (by decide), e 559 (by decide), e 560 (by decide), e 561 (by decide), e 562 (by decide), e 564 (by decide)]; exact q3
def vkM (σ : Sto) : Int := σ.I 577 (byM σ)
def vLM (σ : Sto) : Int := b32and (w32 (gtF (σ.I 557) (σ.I 555 76 + 1) 2)) 65535
def vGM (σ : Sto) (k n : Int) : Int := gtF (σ.I 557) (σ.I 555 76 + k) n
theorem GET_i {σ ρ τ : Sto} {j k y : Int} (h : ADM σ ρ j) (hy : y = gtF (ρ.I 557) (ρ.I 555 76) k) (e : τ = ρ.wI 555 76 (ρ.I 555 76 + k)) : y = vGM σ j k ∧ ADM σ τ (j + k) := by
  refine ⟨?_, ADM_tr h (ADM_w e)⟩
  rw [hy, show ρ.I 557 = σ.I 557 from funext fun i => h.1 557 i (by omega), h.2.2]; rfl
def fdM (σ : Sto) : Prop := σ.I 555 76 + 1 ≤ σ.I 555 77 ∧ byM σ < σ.I 555 27
def kTM (σ : Sto) : Prop := vkM σ = 0 ∨ vkM σ = 1
def RV1 (σ τ : Sto) (y : Int) : Prop := fdM σ ∧ ((kTM σ ∧ σ.I 555 76 + 3 + vLM σ ≤ σ.I 555 77 ∧ ∃ ρ, ADM σ ρ (3 + vLM σ) ∧ TOF ρ τ y (byM σ) (σ.I 555 76 + 3) (vLM σ)) ∨ (¬ kTM σ ∧ σ.I 555 76 + 9 ≤ σ.I 555 77 ∧ ∃ ρ, ADM σ ρ 9 ∧ ((vkM σ = 2 ∧ NUF ρ τ y (byM σ) (vGM σ 1 8)) ∨ (vkM σ = 3 ∧ PLF ρ τ y (byM σ) (w32 (vGM σ 1 4)) (w32 (vGM σ 5 4))) ∨ ((vkM σ < 0 ∨ 3 < vkM σ) ∧ ROF ρ τ y (byM σ) (w32 (vGM σ 1 2)) (w32 (vGM σ 3 2)) (w32 (vGM σ 5 2)) (w32 (vGM σ 7 2))))))
def RV0 (σ ρ : Sto) : Prop := (¬ fdM σ ∧ (ρ = σ ∨ ADM σ ρ 1)) ∨ (fdM σ ∧ kTM σ ∧ ¬ (σ.I 555 76 + 3 ≤ σ.I 555 77 ∧ σ.I 555 76 + 3 + vLM σ ≤ σ.I 555 77) ∧ ∃ k, ADM σ ρ k) ∨ (fdM σ ∧ ¬ kTM σ ∧ ¬ (σ.I 555 76 + 9 ≤ σ.I 555 77) ∧ ∃ k, ADM σ ρ k)

theorem sp_X9_readValue {E : XE} {d : Nat} {σ : Sto}  (hd : 21 ≤ d) (hL : Lay σ)  (p0 : 0 ≤ σ.I 555 76 ∧ σ.I 555 76 ≤ σ.I 555 77 ∧ σ.I 555 77 ≤ 30000) (p1 : VPM σ) : CC E mX9_readValue d [aO 555] σ (RTI (fun y τ => (RV1 σ τ y)) (fun a τ => (SF σ τ) ∧ (a = 556) ∧ (RV0 σ τ))) := by sorry
end
section
/-! contracts: printed by tools/mk.py out of s98zzz_objM.py -/
set_option maxRecDepth 100000
set_option maxHeartbeats 1600000
/-! an object is read: the model -/
def RVp (σ τ : Sto) : Prop := ∃ y, 0 < y ∧ RV1 σ τ y
def UNH (σ τ : Sto) (k : Int) : Prop := (∀ c i, ¬ (c = 594 ∧ σ.I 555 52 ≤ i ∧ i < k) → τ.I c i = σ.I c i) ∧ τ.2 = σ.2 ∧ ∀ i, σ.I 555 52 ≤ i → i < k → τ.I 594 i = 0
def LYO (σ τ : Sto) (o p v : Int) : Prop := ∃ υ, RD σ υ (fun c i => if at2 c i 591 o then p else if at2 c i 592 o then v else if at2 c i 593 o then 2147483647 else if at2 c i 594 o then 1 else if at2 c i 595 o then σ.I 555 45 else if at2 c i 596 o then σ.I 555 30 - σ.I 555 45 else if at2 c i 555 45 then σ.I 555 30 else σ.I c i) ∧ τ = υ.wI 555 52 (o + 1)
def NIM (ρ : Sto) : Prop := (0 ≤ ρ.I 555 76 ∧ ρ.I 555 76 ≤ ρ.I 555 77 ∧ ρ.I 555 77 ≤ 30000) ∧ VPM ρ ∧ (0 ≤ ρ.I 555 52 ∧ ρ.I 555 52 ≤ 600) ∧ trH ρ (ρ.I 555 52) ∧ ∀ p, 0 ≤ p → p < ρ.I 555 52 → ρ.I 594 p ≠ 0 → ρ.I 594 p = 1
/-- a property that an import keeps -/
def CJM (J : Sto → Prop) : Prop := ∀ ρ, J ρ → NIM ρ ∧ (∀ τ y, 0 < y → RV1 ρ τ y → J τ) ∧ (∀ τ k, 0 ≤ k → ρ.I 555 76 + k ≤ ρ.I 555 77 → ADM ρ τ k → J τ)
def mN (σ : Sto) : Int := w32 (vGM σ 0 4)
def mP (σ : Sto) : Int := w32 (vGM σ 4 4)
def mC (σ : Sto) : Int := σ.I 557 (σ.I 555 76 + 8) % 256
def paJ (σ : Sto) : Prop := mP σ = -1 ∨ (0 ≤ mP σ ∧ mP σ < σ.I 555 52 ∧ σ.I 594 (mP σ) ≠ 0 ∧ dp (pH σ) (mP σ) < 10)
def okO (σ : Sto) (x : Int) : Prop := (σ.I 555 52 ≤ mN σ ∧ mN σ < x) ∧ paJ σ ∧ σ.I 555 76 + 9 ≤ σ.I 555 77 ∧ mC σ ≤ 24
def MO5 (σ τ : Sto) (k : Int) : Prop := ∃ α, ADM σ α 9 ∧ RPT RVp k.toNat α τ
def UN5 (σ τ : Sto) (J : Sto → Prop) (k : Int) : Prop := ∃ α, MO5 σ α (mC σ) ∧ J α ∧ UNH α τ k ∧ α.I 555 52 ≤ k ∧ (k ≤ mN σ ∨ k = α.I 555 52)
def MOB1 (σ τ : Sto) (x v : Int) : Prop := okO σ x ∧ ∃ α β, MO5 σ α (mC σ) ∧ UNH α β (mN σ) ∧ LYO β τ (mN σ) (mP σ) v
def MOB0 (σ ρ : Sto) (x : Int) : Prop := (¬ okO σ x ∧ ∃ k, ADM σ ρ k) ∨ (okO σ x ∧ ∃ k α, k < mC σ ∧ MO5 σ α k ∧ (RV0 α ρ ∨ ∃ y, y ≤ 0 ∧ RV1 α ρ y))
theorem UNH_0 (σ : Sto) : UNH σ σ (σ.I 555 52) := ⟨fun _ _ _ => rfl, rfl, fun i a b => by omega⟩
theorem UNH_s {σ τ υ : Sto} {k : Int} (h : UNH σ τ k) (h0 : σ.I 555 52 ≤ k) (e : υ = τ.wI 594 k 0) : UNH σ υ (k + 1) := by
  obtain ⟨a, b, c⟩ := h
  refine ⟨fun c i q => by rw [e, I_ot _ _ _ _ _ _ (fun z => q (by omega))]; exact a c i (fun z => q (by omega)), by rw [e]; exact b, fun i i0 i1 => ?_⟩
  rw [e]
  rcases (show i = k ∨ i < k by omega) with z | z
  · rw [z, I_same]
  · rw [I_nj _ _ _ _ (by omega)]; exact c i i0 z
theorem UNH_m {σ τ : Sto} {k m : Int} (h : UNH σ τ k) (e : k = m ∨ (k = σ.I 555 52 ∧ m ≤ k)) : UNH σ τ m := by
  rcases e with e | ⟨e, f⟩
  · rw [← e]; exact h
  · obtain ⟨a, b, c⟩ := h
    exact ⟨fun c i q => a c i (fun z => by omega), b, fun i i0 i1 => by omega⟩

theorem sp_X9_readObject {E : XE} {d : Nat} {σ : Sto} {J : Sto → Prop} {x1 : Int} {x2 : Int} (hd : 24 ≤ d) (hL : Lay σ)  (p0 : CJM J) (p1 : J σ) (p2 : 0 ≤ x1 ∧ x1 ≤ 600) (p3 : inR x2) : CC E mX9_readObject d [aO 555, aI (x1), aI (x2)] σ (RTV (fun τ => (MOB1 σ τ x1 x2)) (fun a τ => (SF σ τ) ∧ (a = 556) ∧ (MOB0 σ τ x1))) := by sorry
end
section
/-! contracts: printed by tools/mk.py out of s98zzza_anaM.py -/
set_option maxRecDepth 100000
set_option maxHeartbeats 1600000
/-! an analyser is read: the model -/
def RPI (R : Int → Sto → Sto → Prop) : Nat → Sto → Sto → Prop
  | 0, σ, τ => τ = σ
  | n + 1, σ, τ => ∃ ρ, RPI R n σ ρ ∧ R (n : Int) ρ τ
theorem RPI_s {R : Int → Sto → Sto → Prop} {σ ρ τ : Sto} {k : Int} (h0 : 0 ≤ k) (h : RPI R k.toNat σ ρ) (g : R k ρ τ) : RPI R (k + 1).toNat σ τ := by
  rw [show (k + 1).toNat = k.toNat + 1 by omega]; exact ⟨ρ, h, by rw [show ((k.toNat : Nat) : Int) = k by omega]; exact g⟩
def AN1 (σ s : Sto) (a : Int) : Prop := ∃ α, CN1 σ α 1 ∧ s = α.wI 558 a (byM σ)
def AN2 (σ s : Sto) (a : Int) : Prop := ∃ r α, AN1 σ r a ∧ CN1 r α 2 ∧ s = α.wI 559 a (byM r)
def AN3 (σ s : Sto) (a : Int) : Prop := ∃ r α, AN2 σ r a ∧ CN1 r α 5 ∧ s = α.wI 560 a (byM r)
def AN4 (σ s : Sto) (a n : Int) : Prop := ∃ r α, AN3 σ r a ∧ r.I 560 a ≠ 1 ∧ CN1 r α 20 ∧ s = α.wI 561 a 0 ∧ n = byM r
def AN0 (σ ρ : Sto) (a : Int) : Prop := CN0 σ ρ 1 ∨ (∃ r, AN1 σ r a ∧ CN0 r ρ 2) ∨ (∃ r, AN2 σ r a ∧ CN0 r ρ 5) ∨ (AN3 σ ρ a ∧ ρ.I 560 a = 1) ∨ (∃ r, AN3 σ r a ∧ r.I 560 a ≠ 1 ∧ CN0 r ρ 20)
def fnd (ρ υ : Sto) (a : Int) : Prop := exN (fun k => υ.I 564 (60 * a + k) = byM ρ ∧ eqA (υ.I 563) (υ.I 557) (20 * (60 * a + k)) (ρ.I 555 76 + 1) (byM ρ)) (υ.I 561 a)
def STP (a k : Int) (ρ τ : Sto) : Prop := ∃ υ, TR1 ρ υ (60 * a + k) ∧ ¬ fnd ρ υ a ∧ τ = υ.wI 561 a (υ.I 561 a + 1)
def SYP (a k : Int) (ρ τ : Sto) : Prop := TR1 ρ τ (60 * a + 20 + k)
def AN5 (σ s : Sto) (a n k : Int) : Prop := ∃ r, AN4 σ r a n ∧ RPI (STP a) k.toNat r s
def AN6 (σ s : Sto) (a m k : Int) : Prop := ∃ r α n, AN5 σ r a n n ∧ CN1 r α 20 ∧ m = byM r ∧ RPI (SYP a) k.toNat α s
def RAN1 (σ τ : Sto) (a : Int) : Prop := ∃ r m, AN6 σ r a m (2 * m) ∧ τ = (r.wI 562 a m).wI 555 3 ((r.wI 562 a m).I 555 3 + 1)
def RAN0 (σ ρ : Sto) (a : Int) : Prop := AN0 σ ρ a ∨ (∃ n k r, AN5 σ r a n k ∧ k < n ∧ (TR0 r ρ ∨ (TR1 r ρ (60 * a + k) ∧ fnd r ρ a))) ∨ (∃ n r, AN5 σ r a n n ∧ CN0 r ρ 20) ∨ (∃ m k r, AN6 σ r a m k ∧ k < 2 * m ∧ TR0 r ρ)
/-- what a row leaves -/
def BDA (σ : Sto) : Prop := (0 ≤ σ.I 555 76 ∧ σ.I 555 76 ≤ σ.I 555 77 ∧ σ.I 555 77 ≤ 30000) ∧ bd_0_20 σ 564 360 ∧ 0 ≤ σ.I 555 3 ∧ σ.I 555 3 ≤ 6
theorem BDA_a {σ ρ : Sto} {k : Int} (h : ADM σ ρ k) (h0 : 0 ≤ k) (h1 : σ.I 555 76 + k ≤ σ.I 555 77) (p : BDA σ) : BDA ρ := by
  obtain ⟨a, b, c⟩ := p
  refine ⟨?_, bd_0_20_eq b (funext fun i => h.1 564 i (by omega)), by rw [h.1 555 3 (by omega)]; exact c⟩
  rw [h.2.2, h.1 555 77 (by omega)]; omega
theorem BDA_w {σ ρ : Sto} {c : Nat} {i x : Int} (e : ρ = σ.wI c i x) (q : 558 ≤ c ∧ c ≤ 562) (p : BDA σ) : BDA ρ := by
  obtain ⟨a, b, d⟩ := p
  refine ⟨?_, bd_0_20_eq b (funext fun j => by rw [e]; exact I_ne _ _ _ _ (by omega)), ?_⟩
  · rw [e, I_ne _ _ _ _ (by omega), I_ne _ _ _ _ (by omega)]; exact a
  · rw [e, I_ne _ _ _ _ (by omega)]; exact d
theorem TR1_f {σ τ : Sto} {k : Int} (h : TR1 σ τ k) (p : BDA σ) (h0 : 0 ≤ k) : BDA τ ∧ (∀ i, τ.I 561 i = σ.I 561 i) ∧ (0 ≤ byM σ ∧ σ.I 555 76 + 1 + byM σ ≤ σ.I 555 77) ∧ τ.I 557 = σ.I 557 := by
  obtain ⟨ρ, c1, ⟨l1, l2, _⟩, υ, r, e⟩ := h
  have v := c1.2.2
  have f : ∀ c i, ¬ (c = 564 ∧ i = k) → c ≠ 563 → ¬ (c = 555 ∧ i = 76) → τ.I c i = σ.I c i := fun c i x y z => by
    rw [e, I_ot _ _ _ _ _ _ z, r.2]
    show (if _ then _ else if _ then _ else _) = _
    rw [if_neg (fun w => x w), if_neg (fun w => y w.1)]; exact v.1 c i z
  have f76 : τ.I 555 76 = σ.I 555 76 + 1 + byM σ := by
    rw [e, I_same, r.2]
    show (if _ then _ else if _ then _ else _) + _ = _
    rw [if_neg (fun w => absurd w.1 (by decide)), if_neg (fun w => absurd w.1 (by decide)), v.2.2]
  have u := v.1 555 77 (by omega)
  have b := v.2.2
  obtain ⟨p1, p2, p3⟩ := p
  refine ⟨⟨?_, fun i i0 i1 => ?_, by rw [f 555 3 (by omega) (by omega) (by omega)]; exact p3⟩, fun i => f _ _ (by omega) (by omega) (by omega), by omega, funext fun i => f _ _ (by omega) (by omega) (by omega)⟩
  · rw [f76, f 555 77 (by omega) (by omega) (by omega)]; omega
  · by_cases z : i = k
    · rw [z, e, I_ne _ _ _ _ (by decide), r.2]
      have g : (fun c i => if at2 c i 564 k then byM σ else if rg c i 563 (20 * k) (20 * k + byM σ) then ρ.I 557 (ρ.I 555 76 + (i - 20 * k)) else ρ.I c i) 564 k = byM σ := if_pos ⟨rfl, rfl⟩
      rw [g]; omega
    · rw [f 564 i (fun w => z w.2) (by omega) (by omega)]; exact p2 i i0 i1

theorem sp_X9_readAnalyser {E : XE} {d : Nat} {σ : Sto} {x1 : Int} (hd : 6 ≤ d) (hL : Lay σ)  (p0 : 0 ≤ x1 ∧ x1 < 6) (p1 : BDA σ) : CC E mX9_readAnalyser d [aO 555, aI (x1)] σ (RTV (fun τ => (RAN1 σ τ x1)) (fun a τ => (SF σ τ) ∧ (a = 556) ∧ (RAN0 σ τ x1))) := by sorry
end
section
/-! contracts: printed by tools/mk.py out of s98zzzb_allM.py -/
set_option maxRecDepth 100000
set_option maxHeartbeats 1600000
/-! all is read: the model -/
def MB1 (x : Int) (σ τ : Sto) : Prop := MOB1 σ τ x (σ.I 555 54 + 1)
/-- a property that an import keeps, from its start on -/
def CJN (J : Sto → Prop) : Prop := CJM J ∧ ∀ ρ, J ρ → (BDA ρ ∧ inR (ρ.I 555 54 + 1)) ∧ (∀ τ a, (0 ≤ a ∧ a < 6) → RAN1 ρ τ a → J τ) ∧ (∀ τ f, (0 ≤ f ∧ f < 12) → RF1 ρ τ f → J τ) ∧ (∀ τ, ρ.I 555 76 ≤ ρ.I 555 77 - 4 → (∀ c i, ¬ (c = 555 ∧ i = 77) → τ.I c i = ρ.I c i) → τ.2 = ρ.2 → τ.I 555 77 = ρ.I 555 77 - 4 → J τ) ∧ (∀ τ x, (0 ≤ x ∧ x ≤ 600) → MB1 x ρ τ → J τ)
def s0M (σ : Sto) : Sto := σ.wI 555 76 2
def RA2 (σ s : Sto) (n k : Int) : Prop := ∃ α, CN1 (s0M σ) α 6 ∧ n = byM (s0M σ) ∧ RPI (fun a ρ τ => RAN1 ρ τ a) k.toNat α s
def RA3 (σ s : Sto) (n k : Int) : Prop := ∃ r α m, RA2 σ r m m ∧ CN1 r α 12 ∧ n = byM r ∧ RPI (fun f ρ τ => RF1 ρ τ f) k.toNat α s
def RA4 (σ s : Sto) (w : Int) : Prop := ∃ r m, RA3 σ r m m ∧ r.I 555 76 + 4 ≤ r.I 555 77 ∧ ADM r s 4 ∧ w = w32 (vGM r 0 4)
def nxM (r : Sto) : Int := w32 (gtF (r.I 557) (r.I 555 77 - 4) 4)
def okA (r : Sto) (w : Int) : Prop := (0 ≤ w ∧ w ≤ 600) ∧ r.I 555 76 ≤ r.I 555 77 - 4 ∧ 0 ≤ nxM r ∧ nxM r ≤ 600
def SHR (r s : Sto) : Prop := (∀ c i, ¬ (c = 555 ∧ i = 77) → s.I c i = r.I c i) ∧ s.2 = r.2 ∧ s.I 555 77 = r.I 555 77 - 4
def RA6 (σ s : Sto) (w x k : Int) : Prop := ∃ r q, RA4 σ r w ∧ okA r w ∧ x = nxM r ∧ SHR r q ∧ RPT (MB1 x) k.toNat q s
def RAL1 (σ τ : Sto) (y : Int) : Prop := ∃ r β x, RA6 σ r y x y ∧ r.I 555 76 = r.I 555 77 ∧ UNH r β x ∧ τ = β.wI 555 52 x
def POS (r ρ : Sto) : Prop := (∀ c i, ¬ (c = 555 ∧ i = 76) → ρ.I c i = r.I c i) ∧ ρ.2 = r.2
def RAL0 (σ ρ : Sto) : Prop := CN0 (s0M σ) ρ 6 ∨ (∃ n k r, RA2 σ r n k ∧ k < n ∧ RAN0 r ρ k) ∨ (∃ n r, RA2 σ r n n ∧ CN0 r ρ 12) ∨ (∃ n k r, RA3 σ r n k ∧ k < n ∧ RF0 r ρ k) ∨ (∃ n, RA3 σ ρ n n ∧ ρ.I 555 77 < ρ.I 555 76 + 4) ∨ (∃ w r, RA4 σ r w ∧ ¬ okA r w ∧ POS r ρ) ∨ (∃ w x k r, RA6 σ r w x k ∧ k < w ∧ MOB0 r ρ x) ∨ (∃ w x, RA6 σ ρ w x w ∧ ρ.I 555 76 ≠ ρ.I 555 77)
theorem POS_a {r ρ : Sto} {k : Int} (h : ADM r ρ k) : POS r ρ := ⟨h.1, h.2.1⟩
def UNX (σ τ : Sto) (J : Sto → Prop) (w x k : Int) : Prop := ∃ r, RA6 σ r w x w ∧ J r ∧ r.I 555 76 = r.I 555 77 ∧ UNH r τ k ∧ r.I 555 52 ≤ k ∧ (k ≤ x ∨ k = r.I 555 52)

theorem sp_X9_readAll {E : XE} {d : Nat} {σ : Sto} {J : Sto → Prop} (hd : 25 ≤ d) (hL : Lay σ)  (p0 : CJN J) (p1 : J (s0M σ)) : CC E mX9_readAll d [aO 555] σ (RTI (fun y τ => (RAL1 σ τ y)) (fun a τ => (SF σ τ) ∧ (a = 556) ∧ (RAL0 σ τ))) := by sorry
end
section
/-! contracts: printed by tools/mk.py out of s98zzzc_impO.py -/
set_option maxRecDepth 100000
set_option maxHeartbeats 1600000
/-! a paper is read in: the model -/
def suN (A : Int → Int) (b : Int) : Nat → Int
  | 0 => 0
  | k + 1 => b32or (b32shl (suN A b k) 8) (A (b + (k : Int)) % 256)
theorem su_s (A : Int → Int) (b k : Int) (h : 0 ≤ k) : suN A b (k + 1).toNat = b32or (b32shl (suN A b k.toNat) 8) (A (b + k) % 256) := by
  rw [show (k + 1).toNat = k.toNat + 1 by omega]
  show b32or (b32shl (suN A b k.toNat) 8) (A (b + (k.toNat : Int)) % 256) = _
  rw [show ((k.toNat : Nat) : Int) = k by omega]
theorem or32_R (x y : Int) : inR (b32or x y) := by
  have h := (Int32.ofInt x ||| Int32.ofInt y).toBitVec.toInt_lt
  have g := (Int32.ofInt x ||| Int32.ofInt y).toBitVec.le_toInt
  have e : b32or x y = (Int32.ofInt x ||| Int32.ofInt y).toBitVec.toInt := rfl
  unfold inR
  rw [e]
  omega
def TKM (σ τ : Sto) : Prop := Ch (fun c i => at2 c i 555 2) σ τ ∧ τ.I 555 2 = 0
def IMJ (J : Sto → Prop) : Prop := CJN J ∧ (∀ ς ρ, J (s0M ς) → RAL0 ς ρ → 0 ≤ ρ.I 555 30 ∧ ρ.I 555 30 ≤ 6000) ∧ ∀ ς ρ y, J (s0M ς) → RAL1 ς ρ y → 0 ≤ ρ.I 555 54 ∧ ρ.I 555 54 ≤ 1000000
def hdM (σ : Sto) : Prop := 16 ≤ σ.I 555 2 ∧ σ.I 557 0 = 83 ∧ σ.I 557 1 = 72
def emM (σ : Sto) : Prop := σ.I 555 3 ≤ 0 ∧ σ.I 555 27 ≤ 0 ∧ σ.I 555 52 ≤ 0
def smM (σ : Sto) : Prop := suN (σ.I 557) (σ.I 555 2 - 4) 4 = w32 (smH (σ.I 557) (σ.I 555 2 - 4))
def IMS (σ ς : Sto) : Prop := ∃ α, TKM σ α ∧ ς = α.wI 555 77 (σ.I 555 2 - 4)
/-- all has failed: nothing is left -/
def FLM (ρ τ : Sto) : Prop := ∃ β, β = (((ρ.wI 555 3 0).wI 555 27 0).wI 555 52 0).wI 555 45 0 ∧ RD β τ (fun c i => if 0 < β.I 555 30 ∧ at2 c i 555 38 then β.I 580 0 else if 0 < β.I 555 30 ∧ at2 c i 555 44 then β.I 582 0 else if 0 < β.I 555 30 ∧ at2 c i 555 30 then 0 else if 0 < β.I 555 30 ∧ at2 c i 582 0 then β.I 582 0 else if ¬ 0 < β.I 555 30 ∧ at2 c i 582 (β.I 555 30) then β.I 555 44 else β.I c i)
/-- all has come -/
def DNM (ρ τ : Sto) : Prop := ∃ β γ, RD ρ β (fun c i => if fgM c i then 0 else ρ.I c i) ∧ RD β γ (fun c i => if at2 c i 555 54 ∨ at2 c i 555 53 then β.I 555 54 + 1 else β.I c i) ∧ τ = γ.wI 555 55 (β.I 555 54 + 1)
def IMM (σ τ : Sto) (y : Int) : Prop := (¬ emM σ ∧ y = -2 ∧ TKM σ τ) ∨ (emM σ ∧ ¬ hdM σ ∧ y = -11 ∧ TKM σ τ) ∨ (emM σ ∧ hdM σ ∧ ¬ smM σ ∧ y = -12 ∧ TKM σ τ) ∨ (emM σ ∧ hdM σ ∧ smM σ ∧ ∃ ς ρ, IMS σ ς ∧ ((RAL0 ς ρ ∧ y = -13 ∧ FLM ρ τ) ∨ (RAL1 ς ρ y ∧ DNM ρ τ)))

theorem sp_X9_imported {E : XE} {d : Nat} {σ : Sto} {J : Sto → Prop} (hd : 26 ≤ d) (hL : Lay σ)  (p0 : IMJ J) (p1 : emM σ → hdM σ → ∀ ς, IMS σ ς → J (s0M ς)) (p2 : σ.I 555 27 ≤ 0 → σ.I 555 30 = 0) (p3 : 0 ≤ σ.I 555 2 ∧ σ.I 555 2 ≤ 30000) : CC E mX9_imported d [aO 555] σ (RVI (fun y τ => (IMM σ τ y))) := by sorry
end
section
/-! contracts: printed by tools/mk.py out of s98zzzd_ctor.py -/
set_option maxRecDepth 100000
set_option maxHeartbeats 1200000
/-! constructors -/
theorem DX11_init_0 : DD cX11_init 0 1 1 (.aload_n 0) := ⟨by decide +kernel, rfl⟩
theorem DX11_init_1 : DD cX11_init 1 3 4 (.invokespecial 3) := ⟨by decide +kernel, rfl⟩
theorem DX11_init_4 : DD cX11_init 4 1 5 (.aload_n 0) := ⟨by decide +kernel, rfl⟩
theorem DX11_init_5 : DD cX11_init 5 3 8 (.sipush 400) := ⟨by decide +kernel, rfl⟩
theorem DX11_init_8 : DD cX11_init 8 2 10 (.newarray .byte) := ⟨by decide +kernel, rfl⟩
theorem DX11_init_10 : DD cX11_init 10 3 13 (.putfield 9) := ⟨by decide +kernel, rfl⟩
theorem DX11_init_13 : DD cX11_init 13 1 14 (.aload_n 0) := ⟨by decide +kernel, rfl⟩
theorem DX11_init_14 : DD cX11_init 14 2 16 (.bipush 20) := ⟨by decide +kernel, rfl⟩
theorem DX11_init_16 : DD cX11_init 16 2 18 (.newarray .int) := ⟨by decide +kernel, rfl⟩
theorem DX11_init_18 : DD cX11_init 18 3 21 (.putfield 15) := ⟨by decide +kernel, rfl⟩
theorem DX11_init_21 : DD cX11_init 21 1 22 (.return_) := ⟨by decide +kernel, rfl⟩
/-- the store behind the constructor of Rows at b -/
def rwS (σ : Sto) (b : Nat) : Sto := (((σ.al 1 400).wR b 0 (some σ.n)).al 0 20).wR b 1 (some (σ.n + 1))
section ST
variable {σ : Sto} {t z a b : Nat} {k j : Int} {v : Option Nat}
theorem sh_al (h : a ≠ σ.n) : (σ.al t z).sh a = σ.sh a := if_neg h
theorem sh_an : (σ.al t z).sh σ.n = (t, z) := if_pos rfl
theorem R_al (h : a ≠ σ.n) : (σ.al t z).R a k = σ.R a k := if_neg h
theorem R_an : (σ.al t z).R σ.n k = none := if_pos rfl
theorem R_wR (h : ¬ (a = b ∧ k = j)) : (σ.wR b j v).R a k = σ.R a k := if_neg h
theorem R_ws : (σ.wR b j v).R b j = v := if_pos ⟨rfl, rfl⟩
theorem rwS_n : (rwS σ b).n = σ.n + 2 := rfl
theorem rwS_sum : ssum (rwS σ b) = ssum σ + 420 := by
  show ssum (((σ.al 1 400).wR b 0 (some σ.n)).al 0 20) = _
  rw [ssum_al]
  show ssum (σ.al 1 400) + 20 = _
  rw [ssum_al]
theorem rwS_sh (h : a < σ.n) : (rwS σ b).sh a = σ.sh a := by
  show (((σ.al 1 400).wR b 0 (some σ.n)).al 0 20).sh a = _
  rw [sh_al (show a ≠ σ.n + 1 by omega)]
  show (σ.al 1 400).sh a = _
  rw [sh_al (by omega)]
theorem rwS_R (h : a < σ.n) (q : ¬ (a = b ∧ (k = 0 ∨ k = 1))) : (rwS σ b).R a k = σ.R a k := by
  show ((((σ.al 1 400).wR b 0 (some σ.n)).al 0 20).wR b 1 (some (σ.n + 1))).R a k = _
  rw [R_wR (fun w => q ⟨w.1, Or.inr w.2⟩), R_al (show a ≠ σ.n + 1 by omega), R_wR (fun w => q ⟨w.1, Or.inl w.2⟩), R_al (by omega)]
theorem rwS_I (h : a < σ.n) : (rwS σ b).I a k = σ.I a k := by
  show (((σ.al 1 400).wR b 0 (some σ.n)).al 0 20).I a k = _
  refine (if_neg (show ¬ a = σ.n + 1 by omega)).trans ?_
  exact if_neg (show ¬ a = σ.n by omega)
/-- rows lie at b -/
theorem rwS_At (hb : b < σ.n) (h3 : 3 < b ∧ b ≠ 80 ∧ b ≠ 555) (hs : σ.sh b = (111, 3)) (hn : σ.n = b + 1) : At11 (rwS σ b) b := by
  refine ⟨h3, (rwS_sh hb).trans hs, ?_, ?_, ?_, ?_⟩
  · show ((((σ.al 1 400).wR b 0 (some σ.n)).al 0 20).wR b 1 (some (σ.n + 1))).R b 0 = _
    rw [R_wR (fun w => absurd w.2 (by decide)), R_al (show b ≠ σ.n + 1 by omega), R_ws, hn]
  · show (((σ.al 1 400).wR b 0 (some σ.n)).al 0 20).sh (b + 1) = _
    rw [← hn, sh_al (show σ.n ≠ σ.n + 1 by omega)]
    exact sh_an
  · show ((((σ.al 1 400).wR b 0 (some σ.n)).al 0 20).wR b 1 (some (σ.n + 1))).R b 1 = _
    rw [R_ws, hn]
  · show (((σ.al 1 400).wR b 0 (some σ.n)).al 0 20).sh (b + 2) = _
    rw [show b + 2 = σ.n + 1 by omega]
    exact sh_an (σ := (σ.al 1 400).wR b 0 (some σ.n))
end ST
theorem ci_X11 {E : XE} {d : Nat} {σ : Sto} {b : Nat} (hd : 2 ≤ d) (hs : σ.sh b = (111, 3)) (hb : b < σ.n) (h0 : σ.R b 0 = none) (h1 : σ.R b 1 = none) (hk : σ.n + 2 ≤ NC) (hS : ssum σ + 420 ≤ NS) : CC E mX11_init d [aO b] σ (RV (fun τ => τ = rwS σ b)) := by
  refine v_aload_n 0 DX11_init_0 rfl rfl <| v_objInit DX11_init_1 q316 q309 q310 (by omega) (by decide) <| v_aload_n 0 DX11_init_4 rfl rfl <| v_sipush DX11_init_5 (by decide) <| v_newa (t := 1) (z := 400) DX11_init_8 rfl (by decide) q336 rfl (by decide) (by omega) (by omega) ?_
  refine v_putR (ci := 11) (kf := 0) (z := 3) DX11_init_10 (by rw [sh_al (by omega)]; exact hs) rfl (by decide) (Or.inr (Or.inr ⟨rfl, rfl, rfl, q317⟩)) (fun _ _ => rfl) rfl rfl (Or.inr (by rw [R_al (by omega)]; exact h0)) ?_
  refine v_aload_n 0 DX11_init_13 rfl rfl <| v_bipush DX11_init_14 (by decide) <| v_newa (t := 0) (z := 20) DX11_init_16 rfl (by decide) q337 rfl (by decide) ?_ ?_ ?_
  · show σ.n + 1 + 1 ≤ NC
    exact hk
  · show ssum (σ.al 1 400) + 20 ≤ NS
    rw [ssum_al]; omega
  refine v_putR (ci := 11) (kf := 1) (z := 3) DX11_init_18 ?_ rfl (by decide) (Or.inr (Or.inr ⟨rfl, rfl, rfl, q321⟩)) (fun _ _ => rfl) rfl rfl (Or.inr ?_) ?_
  · rw [sh_al (show b ≠ σ.n + 1 by omega)]
    show (σ.al 1 400).sh b = _
    rw [sh_al (by omega)]; exact hs
  · rw [R_al (show b ≠ σ.n + 1 by omega)]
    exact (R_wR (fun w => absurd w.2 (by decide))).trans ((R_al (by omega)).trans h1)
  exact v_vret DX11_init_21 rfl (RV_mk rfl)
end
section
/-! contracts: printed by tools/mk.py out of s98zzze_ana.py -/
set_option maxRecDepth 100000
set_option maxHeartbeats 1200000
/-! the constructor of Analyser -/
theorem DX10_init_0 : DD cX10_init 0 1 1 (.aload_n 0) := ⟨by decide +kernel, rfl⟩
theorem DX10_init_1 : DD cX10_init 1 3 4 (.invokespecial 3) := ⟨by decide +kernel, rfl⟩
theorem DX10_init_4 : DD cX10_init 4 1 5 (.aload_n 0) := ⟨by decide +kernel, rfl⟩
theorem DX10_init_5 : DD cX10_init 5 3 8 (.new 9) := ⟨by decide +kernel, rfl⟩
theorem DX10_init_8 : DD cX10_init 8 1 9 (.dup) := ⟨by decide +kernel, rfl⟩
theorem DX10_init_9 : DD cX10_init 9 3 12 (.invokespecial 11) := ⟨by decide +kernel, rfl⟩
theorem DX10_init_12 : DD cX10_init 12 3 15 (.putfield 12) := ⟨by decide +kernel, rfl⟩
theorem DX10_init_15 : DD cX10_init 15 1 16 (.aload_n 0) := ⟨by decide +kernel, rfl⟩
theorem DX10_init_16 : DD cX10_init 16 3 19 (.new 9) := ⟨by decide +kernel, rfl⟩
theorem DX10_init_19 : DD cX10_init 19 1 20 (.dup) := ⟨by decide +kernel, rfl⟩
theorem DX10_init_20 : DD cX10_init 20 3 23 (.invokespecial 11) := ⟨by decide +kernel, rfl⟩
theorem DX10_init_23 : DD cX10_init 23 3 26 (.putfield 18) := ⟨by decide +kernel, rfl⟩
theorem DX10_init_26 : DD cX10_init 26 1 27 (.aload_n 0) := ⟨by decide +kernel, rfl⟩
theorem DX10_init_27 : DD cX10_init 27 3 30 (.new 9) := ⟨by decide +kernel, rfl⟩
theorem DX10_init_30 : DD cX10_init 30 1 31 (.dup) := ⟨by decide +kernel, rfl⟩
theorem DX10_init_31 : DD cX10_init 31 3 34 (.invokespecial 11) := ⟨by decide +kernel, rfl⟩
theorem DX10_init_34 : DD cX10_init 34 3 37 (.putfield 21) := ⟨by decide +kernel, rfl⟩
theorem DX10_init_37 : DD cX10_init 37 1 38 (.aload_n 0) := ⟨by decide +kernel, rfl⟩
theorem DX10_init_38 : DD cX10_init 38 1 39 (.aload_n 1) := ⟨by decide +kernel, rfl⟩
theorem DX10_init_39 : DD cX10_init 39 3 42 (.putfield 24) := ⟨by decide +kernel, rfl⟩
theorem DX10_init_42 : DD cX10_init 42 1 43 (.return_) := ⟨by decide +kernel, rfl⟩
def anB (σ : Sto) (b : Nat) (k : Int) : Sto := (rwS (σ.al 111 3) σ.n).wR b k (some σ.n)
section ANB
variable {σ : Sto} {a b : Nat} {k j : Int}
theorem anB_sum : ssum (anB σ b k) = ssum σ + 423 := by
  show ssum (rwS (σ.al 111 3) σ.n) = _
  rw [rwS_sum, ssum_al]
theorem anB_sh (h : a < σ.n) : (anB σ b k).sh a = σ.sh a := by
  show (rwS (σ.al 111 3) σ.n).sh a = _
  rw [rwS_sh (show a < σ.n + 1 by omega), sh_al (by omega)]
theorem anB_R (h : a < σ.n) (q : ¬ (a = b ∧ j = k)) : (anB σ b k).R a j = σ.R a j := by
  show ((rwS (σ.al 111 3) σ.n).wR b k (some σ.n)).R a j = _
  rw [R_wR q, rwS_R (show a < σ.n + 1 by omega) (by omega), R_al (by omega)]
theorem anB_I (h : a < σ.n) : (anB σ b k).I a j = σ.I a j := by
  show (rwS (σ.al 111 3) σ.n).I a j = _
  rw [rwS_I (show a < σ.n + 1 by omega)]
  exact if_neg (by omega)
end ANB
/-- the store behind the constructor of Analyser at b -/
def anN (σ : Sto) (b w : Nat) : Sto := (anB (anB (anB σ b 3) b 4) b 5).wR b 6 (some w)
theorem ci_X10 {E : XE} {d : Nat} {σ : Sto} {b w : Nat} (hd : 4 ≤ d) (hs : σ.sh b = (110, 7)) (hb : b < σ.n) (h0 : ∀ k : Int, 2 < k ∧ k ≤ 6 → σ.R b k = none) (hk : σ.n + 9 ≤ NC) (hS : ssum σ + 1269 ≤ NS) : CC E mX10_init d [aO b, aO w] σ (RV (fun τ => τ = anN σ b w)) := by
  obtain ⟨d, rfl⟩ : ∃ e, d = e + 1 := ⟨d - 1, by omega⟩
  refine v_aload_n 0 DX10_init_0 rfl rfl <| v_objInit DX10_init_1 q308 q309 q310 (by omega) (by decide) ?_
  obtain ⟨σ0, f0⟩ : ∃ s, s = σ := ⟨_, rfl⟩
  rw [← f0] at hs hb h0 hk hS ⊢
  have n0 : σ0.n = σ0.n := rfl
  have m0 : ssum σ0 = ssum σ0 := rfl
  have w0 := hb
  have s0 := hs
  have r0 := h0
  refine v_aload_n 0 DX10_init_4 rfl rfl <| v_new (ci := 11) (z := 3) DX10_init_5 rfl q311 q312 q268 (by have := n0; omega) (by have := m0; omega) ?_
  refine v_dup DX10_init_8 rfl ?_
  refine v_invI (as := []) (b := σ0.n) (st := [aO σ0.n, aO b]) DX10_init_9 rfl okX11_init (Or.inr ⟨_, q313⟩) q314 q315 rfl npX11_init (ci_X11 (σ := σ0.al 111 3) (b := σ0.n) (d := d) (by omega) sh_an (Nat.lt_succ_self _) R_an R_an (by show σ0.n + 1 + 2 ≤ NC; have := n0; omega) (by rw [ssum_al]; have := m0; omega)) (Nat.le_of_ble_eq_true rfl) (Nat.le_refl _) (Nat.le_of_ble_eq_true rfl) (RV_ret (fun τ0 g0 e0 => ?_)) RV_thr
  subst e0
  refine v_putR (ci := 10) (kf := 3) (z := 7) DX10_init_12 (by rw [rwS_sh (show b < σ0.n + 1 by have := w0; omega), sh_al (by have := w0; omega)]; exact s0) rfl (by decide) (Or.inr (Or.inr ⟨rfl, rfl, rfl, q344⟩)) (fun _ _ => rfl) rfl rfl (Or.inr (by rw [rwS_R (show b < σ0.n + 1 by have := w0; omega) (by have := w0; omega), R_al (by have := w0; omega)]; exact r0 3 (by omega))) ?_
  obtain ⟨σ1, f1⟩ : ∃ s, s = anB σ0 b 3 := ⟨_, rfl⟩
  show VV E mX10_init (d + 1) 15 _ [] (anB σ0 b 3) _
  rw [← f1]
  have n1 : σ1.n = σ0.n + 3 := by rw [f1]; rfl
  have m1 : ssum σ1 = ssum σ0 + 423 := by rw [f1]; exact anB_sum
  have w1 : b < σ1.n := by have := w0; omega
  have s1 : σ1.sh b = (110, 7) := by rw [f1, anB_sh w0]; exact s0
  have r1 : ∀ k : Int, 3 < k ∧ k ≤ 6 → σ1.R b k = none := fun k q => by rw [f1, anB_R w0 (by omega)]; exact r0 k (by omega)
  refine v_aload_n 0 DX10_init_15 rfl rfl <| v_new (ci := 11) (z := 3) DX10_init_16 rfl q311 q312 q268 (by have := n1; omega) (by have := m1; omega) ?_
  refine v_dup DX10_init_19 rfl ?_
  refine v_invI (as := []) (b := σ1.n) (st := [aO σ1.n, aO b]) DX10_init_20 rfl okX11_init (Or.inr ⟨_, q313⟩) q314 q315 rfl npX11_init (ci_X11 (σ := σ1.al 111 3) (b := σ1.n) (d := d) (by omega) sh_an (Nat.lt_succ_self _) R_an R_an (by show σ1.n + 1 + 2 ≤ NC; have := n1; omega) (by rw [ssum_al]; have := m1; omega)) (Nat.le_of_ble_eq_true rfl) (Nat.le_refl _) (Nat.le_of_ble_eq_true rfl) (RV_ret (fun τ1 g1 e1 => ?_)) RV_thr
  subst e1
  refine v_putR (ci := 10) (kf := 4) (z := 7) DX10_init_23 (by rw [rwS_sh (show b < σ1.n + 1 by have := w1; omega), sh_al (by have := w1; omega)]; exact s1) rfl (by decide) (Or.inr (Or.inr ⟨rfl, rfl, rfl, q347⟩)) (fun _ _ => rfl) rfl rfl (Or.inr (by rw [rwS_R (show b < σ1.n + 1 by have := w1; omega) (by have := w1; omega), R_al (by have := w1; omega)]; exact r1 4 (by omega))) ?_
  obtain ⟨σ2, f2⟩ : ∃ s, s = anB σ1 b 4 := ⟨_, rfl⟩
  show VV E mX10_init (d + 1) 26 _ [] (anB σ1 b 4) _
  rw [← f2]
  have n2 : σ2.n = σ1.n + 3 := by rw [f2]; rfl
  have m2 : ssum σ2 = ssum σ1 + 423 := by rw [f2]; exact anB_sum
  have w2 : b < σ2.n := by have := w1; omega
  have s2 : σ2.sh b = (110, 7) := by rw [f2, anB_sh w1]; exact s1
  have r2 : ∀ k : Int, 4 < k ∧ k ≤ 6 → σ2.R b k = none := fun k q => by rw [f2, anB_R w1 (by omega)]; exact r1 k (by omega)
  refine v_aload_n 0 DX10_init_26 rfl rfl <| v_new (ci := 11) (z := 3) DX10_init_27 rfl q311 q312 q268 (by have := n2; omega) (by have := m2; omega) ?_
  refine v_dup DX10_init_30 rfl ?_
  refine v_invI (as := []) (b := σ2.n) (st := [aO σ2.n, aO b]) DX10_init_31 rfl okX11_init (Or.inr ⟨_, q313⟩) q314 q315 rfl npX11_init (ci_X11 (σ := σ2.al 111 3) (b := σ2.n) (d := d) (by omega) sh_an (Nat.lt_succ_self _) R_an R_an (by show σ2.n + 1 + 2 ≤ NC; have := n2; omega) (by rw [ssum_al]; have := m2; omega)) (Nat.le_of_ble_eq_true rfl) (Nat.le_refl _) (Nat.le_of_ble_eq_true rfl) (RV_ret (fun τ2 g2 e2 => ?_)) RV_thr
  subst e2
  refine v_putR (ci := 10) (kf := 5) (z := 7) DX10_init_34 (by rw [rwS_sh (show b < σ2.n + 1 by have := w2; omega), sh_al (by have := w2; omega)]; exact s2) rfl (by decide) (Or.inr (Or.inr ⟨rfl, rfl, rfl, q350⟩)) (fun _ _ => rfl) rfl rfl (Or.inr (by rw [rwS_R (show b < σ2.n + 1 by have := w2; omega) (by have := w2; omega), R_al (by have := w2; omega)]; exact r2 5 (by omega))) ?_
  obtain ⟨σ3, f3⟩ : ∃ s, s = anB σ2 b 5 := ⟨_, rfl⟩
  show VV E mX10_init (d + 1) 37 _ [] (anB σ2 b 5) _
  rw [← f3]
  have n3 : σ3.n = σ2.n + 3 := by rw [f3]; rfl
  have m3 : ssum σ3 = ssum σ2 + 423 := by rw [f3]; exact anB_sum
  have w3 : b < σ3.n := by have := w2; omega
  have s3 : σ3.sh b = (110, 7) := by rw [f3, anB_sh w2]; exact s2
  have r3 : ∀ k : Int, 5 < k ∧ k ≤ 6 → σ3.R b k = none := fun k q => by rw [f3, anB_R w2 (by omega)]; exact r2 k (by omega)
  refine v_aload_n 0 DX10_init_37 rfl rfl <| v_aload_n 1 DX10_init_38 rfl rfl ?_
  refine v_putR (ci := 10) (kf := 6) (z := 7) DX10_init_39 s3 rfl (by decide) (Or.inr (Or.inr ⟨rfl, rfl, rfl, q353⟩)) (fun _ _ => rfl) rfl rfl (Or.inr (r3 6 (by omega))) ?_
  exact v_vret DX10_init_42 rfl (RV_mk (by rw [f3, f2, f1]; rfl))
end
section
/-! contracts: printed by tools/mk.py out of s98zzzf_newA.py -/
set_option maxRecDepth 100000
set_option maxHeartbeats 1200000
/-! new Analyser(word) in the house -/
theorem v_ti {E : XE} {M : MI} {d pc : Nat} {L : List (Nat × AV)} {st : List AV} {σ : Sto} {Q : Res → Sto → Prop} (h : TI σ → VV E M d pc L st σ Q) : VV E M d pc L st σ Q := by
  intro p l e R s m args below meth c n0 s0 σ0 hC H locs hR hlo hN ls hl
  exact h hR.2.2.2 p l e R s m args below meth c n0 s0 σ0 hC H locs hR hlo hN ls hl
theorem ana_c {E : XE} {d b : Nat} {L : List (Nat × AV)} {st : List AV} {σ : Sto} {Q : Res → Sto → Prop} (hd0 : DD cX0_analyser 65 3 68 (.new 26)) (hd1 : DD cX0_analyser 68 1 69 .dup) (hd2 : DD cX0_analyser 69 1 70 (.aload_n 0)) (hd3 : DD cX0_analyser 70 3 73 (.getfield 28)) (hd4 : DD cX0_analyser 73 3 76 (.invokespecial 31)) (hj : L[0]? = some (0, aO 0)) (hst : awords st ≤ 20) (hL : Lay σ) (eb : b = σ.n) (h1 : σ.n + 10 ≤ NC) (h2 : ssum σ + 1276 ≤ NS) (h5 : 5 ≤ d) (h : ∀ σ', σ' = anN (σ.al 110 7) b 2 → SF σ σ' → VV E mX0_analyser (d + 1) 76 L (aO b :: st) σ' Q) : VV E mX0_analyser (d + 1) 65 L st σ Q := by
  refine v_ti (fun hT => ?_)
  have hF : SF σ (σ.al 110 7) := (Nx.al (n0 := 0) (s0 := 0) ⟨Nat.zero_le _, Nat.zero_le _, SF.rf⟩ hT).2.2
  have hL' := hL.sf hF
  subst eb
  refine v_new (ci := 10) (z := 7) hd0 rfl q303 q304 q267 (by omega) (by omega) ?_
  refine v_dup hd1 rfl ?_
  refine v_aload_n 0 hd2 rfl hj ?_
  refine w_getR (ci := 0) (kf := 2) (kz := 2) hd3 (s_0 hL') rfl (by decide) rfl (Or.inl q993) (fun _ _ => rfl) (r_0_2 hL') ?_
  refine v_invI (as := [aO 2]) (b := σ.n) (st := aO σ.n :: st) hd4 rfl okX10_init (Or.inl q305) q306 q307 rfl npX10_init (ci_X10 (σ := σ.al 110 7) (b := σ.n) (w := 2) (d := d) (by omega) sh_an (Nat.lt_succ_self _) (fun k _ => R_an) (by show σ.n + 1 + 9 ≤ NC; omega) (by rw [ssum_al]; omega)) (Nat.le_of_ble_eq_true rfl) (Nat.le_refl _) ?_ (RV_ret (fun τ g e => h τ e (hF.tr g))) RV_thr
  show awords (aO σ.n :: st) + (2 + 11) ≤ 100
  have e : awords (aO σ.n :: st) = awords st + 1 := by
    show acat (aO σ.n) + awords st = _
    rw [show acat (aO σ.n) = 1 from rfl]; omega
  omega
theorem At11_B {σ : Sto} {b c : Nat} {k : Int} (h : At11 σ c) (hc : c + 2 < σ.n) (hb : c ≠ b) : At11 (anB σ b k) c := ⟨h.1, (anB_sh (by omega)).trans h.2.1, (anB_R (by omega) (fun w => hb w.1)).trans h.2.2.1, (anB_sh (by omega)).trans h.2.2.2.1, (anB_R (by omega) (fun w => hb w.1)).trans h.2.2.2.2.1, (anB_sh (by omega)).trans h.2.2.2.2.2⟩
theorem At11_W {σ : Sto} {b c : Nat} {k : Int} {v : Option Nat} (h : At11 σ c) (hb : c ≠ b) : At11 (σ.wR b k v) c := ⟨h.1, h.2.1, (R_wR (fun w => hb w.1)).trans h.2.2.1, h.2.2.2.1, (R_wR (fun w => hb w.1)).trans h.2.2.2.2.1, h.2.2.2.2.2⟩
theorem At11_n {σ : Sto} {b : Nat} {k : Int} (hn : 675 ≤ σ.n) (hb : σ.n ≠ b) : At11 (anB σ b k) σ.n := At11_W (rwS_At (σ := σ.al 111 3) (b := σ.n) (Nat.lt_succ_self _) (by omega) sh_an rfl) hb
theorem anB_Rb {σ : Sto} {b : Nat} {k : Int} : (anB σ b k).R b k = some σ.n := R_ws
theorem anN_At {σ τ : Sto} {b : Nat} (eb : b = σ.n) (hn : 675 ≤ σ.n) (hL : Lay σ) (e : τ = anN (σ.al 110 7) b 2) : At10 τ b := by
  have n0 : (σ.al 110 7).n = b + 1 := by rw [eb]; rfl
  obtain ⟨s0, f0⟩ : ∃ s, s = σ.al 110 7 := ⟨_, rfl⟩
  rw [← f0] at e n0
  have h0 : s0.sh b = (110, 7) := by rw [f0, eb]; exact sh_an
  have w0 : s0.sh 2 = (1, 30000) := by rw [f0, sh_al (by omega)]; exact s_2 hL
  obtain ⟨s1, f1⟩ : ∃ s, s = anB s0 b 3 := ⟨_, rfl⟩
  obtain ⟨s2, f2⟩ : ∃ s, s = anB s1 b 4 := ⟨_, rfl⟩
  obtain ⟨s3, f3⟩ : ∃ s, s = anB s2 b 5 := ⟨_, rfl⟩
  have n1 : s1.n = b + 4 := by rw [f1]; show s0.n + 3 = _; omega
  have n2 : s2.n = b + 7 := by rw [f2]; show s1.n + 3 = _; omega
  have a1 : At11 s1 (b + 1) := by rw [f1, ← n0]; exact At11_n (by omega) (by omega)
  have a2 : At11 s2 (b + 1) := by rw [f2]; exact At11_B a1 (by omega) (by omega)
  have a2' : At11 s2 (b + 4) := by rw [f2, ← n1]; exact At11_n (by omega) (by omega)
  have a3 : At11 s3 (b + 1) := by rw [f3]; exact At11_B a2 (by omega) (by omega)
  have a3' : At11 s3 (b + 4) := by rw [f3]; exact At11_B a2' (by omega) (by omega)
  have a3'' : At11 s3 (b + 7) := by rw [f3, ← n2]; exact At11_n (by omega) (by omega)
  have e' : τ = s3.wR b 6 (some 2) := by rw [e, f3, f2, f1]; rfl
  have hs : ∀ a, a < b + 1 → τ.sh a = s0.sh a := fun a h => by
    rw [e']
    show s3.sh a = _
    rw [f3, anB_sh (by omega), f2, anB_sh (by omega), f1, anB_sh (by omega)]
  have r3 : τ.R b 3 = some (b + 1) := by rw [e', R_wR (fun w => absurd w.2 (by decide)), f3, anB_R (by omega) (fun w => absurd w.2 (by decide)), f2, anB_R (by omega) (fun w => absurd w.2 (by decide)), f1, anB_Rb, n0]
  have r4 : τ.R b 4 = some (b + 4) := by rw [e', R_wR (fun w => absurd w.2 (by decide)), f3, anB_R (by omega) (fun w => absurd w.2 (by decide)), f2, anB_Rb, n1]
  have r5 : τ.R b 5 = some (b + 7) := by rw [e', R_wR (fun w => absurd w.2 (by decide)), f3, anB_Rb, n2]
  have r6 : τ.R b 6 = some 2 := by rw [e', R_ws]
  have A1 : At11 τ (b + 1) := by rw [e']; exact At11_W a3 (by omega)
  have A4 : At11 τ (b + 4) := by rw [e']; exact At11_W a3' (by omega)
  have A7 : At11 τ (b + 7) := by rw [e']; exact At11_W a3'' (by omega)
  exact ⟨by omega, (hs b (by omega)).trans h0, r3, A1.2.1, A1, r4, A4.2.1, A4, r5, A7.2.1, A7, r6, (hs 2 (by omega)).trans w0⟩
theorem w_aast {E : XE} {M : MI} {d pc pc' : Nat} {L : List (Nat × AV)} {st : List AV} {σ : Sto} {Q : Res → Sto → Prop} {a b t z ci zb : Nat} {i : Int} {q : QC} (hd : DD M.cc pc 1 pc' .aastore) (hs : σ.sh a = (t, z)) (ht : 4 < t ∧ t < 8) (h0 : 0 ≤ i) (h1 : i < z) (hb : σ.sh b = (100 + ci, zb)) (hq : clT[ci]? = some q) (hty : aty t = .object q.1.1) (hy : dyn a i ∨ σ.R a i = none) (h : ∀ σ', σ' = σ.wR a i (some b) → SF σ σ' → VV E M d pc' L st σ' Q) : VV E M d pc L (aO b :: aI i :: aO a :: st) σ Q := v_aast hd hs ht h0 h1 hb hq hty hy (h _ rfl (SF.wR hy))
end
section
/-! contracts: printed by tools/mk.py out of s98zzzg_anaX.py -/
set_option maxRecDepth 100000
set_option maxHeartbeats 1200000
/-! an analyser comes: the program -/
theorem anN_I {σ : Sto} {a b w : Nat} {k : Int} (h : a < σ.n) : (anN (σ.al 110 7) b w).I a k = σ.I a k := by
  show (anB (anB (anB (σ.al 110 7) b 3) b 4) b 5).I a k = _
  rw [anB_I (show a < σ.n + 1 + 3 + 3 by omega), anB_I (show a < σ.n + 1 + 3 by omega), anB_I (show a < σ.n + 1 by omega)]
  exact if_neg (by omega)
def ANZ (σ : Sto) : Prop := ∀ k, 0 ≤ k → k < 6 → ∀ b, σ.R 3 k = some b → At10 σ b ∧ 675 ≤ b
def okG (x y z : Int) : Prop := (0 ≤ x ∧ x ≤ 1) ∧ (0 ≤ y ∧ y ≤ 2) ∧ (z = 0 ∨ (2 ≤ z ∧ z ≤ 5))
def ANG (σ ρ : Sto) (b : Nat) : Prop := (σ.R 3 (σ.I 0 4) = some b ∧ ρ = σ) ∨ (σ.R 3 (σ.I 0 4) = none ∧ b = σ.n ∧ ρ = (anN (σ.al 110 7) b 2).wR 3 (σ.I 0 4) (some b))
def anW (ρ : Sto) (b : Nat) (x y z : Int) : Sto := ((((((ρ.wI (b + 1) 2 0).wI (b + 4) 2 0).wI (b + 7) 2 0).wI b 0 x).wI b 1 y).wI b 2 z).wI 0 4 (ρ.I 0 4 + 1)
def ANAX (σ τ : Sto) (y x1 x2 x3 : Int) : Prop := (¬ okG x1 x2 x3 ∧ y = -1 ∧ τ = σ) ∨ (okG x1 x2 x3 ∧ σ.I 0 4 = 6 ∧ y = -3 ∧ τ = σ) ∨ (okG x1 x2 x3 ∧ σ.I 0 4 < 6 ∧ y = σ.I 0 4 ∧ ∃ ρ b, ANG σ ρ b ∧ 675 ≤ b ∧ At10 ρ b ∧ τ = anW ρ b x1 x2 x3)
theorem anW_I {ρ s1 s2 s3 s4 s5 s6 : Sto} {b : Nat} {x y z : Int} (hb : 675 ≤ b) (e1 : s1 = ρ.wI (b + 1) 2 0) (e2 : s2 = s1.wI (b + 4) 2 0) (e3 : s3 = s2.wI (b + 7) 2 0) (e4 : s4 = s3.wI b 0 x) (e5 : s5 = s4.wI b 1 y) (e6 : s6 = s5.wI b 2 z) : s6.I 0 4 = ρ.I 0 4 := by
  rw [e6, I_ne _ _ _ _ (by omega), e5, I_ne _ _ _ _ (by omega), e4, I_ne _ _ _ _ (by omega), e3, I_ne _ _ _ _ (by omega), e2, I_ne _ _ _ _ (by omega), e1, I_ne _ _ _ _ (by omega)]

theorem sp_X0_analyser {E : XE} {d : Nat} {σ : Sto} {x1 : Int} {x2 : Int} {x3 : Int} (hd : 6 ≤ d) (hL : Lay σ)  (p0 : inR x1) (p1 : inR x2) (p2 : inR x3) (p3 : 0 ≤ σ.I 0 4 ∧ σ.I 0 4 ≤ 6) (p4 : ANZ σ) (p5 : σ.n + 10 ≤ NC) (p6 : ssum σ + 1276 ≤ NS) (p7 : 675 ≤ σ.n) : CC E mX0_analyser d [aO 0, aI (x1), aI (x2), aI (x3)] σ (RVI (fun y τ => (ANAX σ τ y x1 x2 x3))) := by sorry
end
section
/-! contracts: printed by tools/mk.py out of s98zzzh_rdA.py -/
set_option maxRecDepth 100000
set_option maxHeartbeats 1600000
/-! an analyser is read: the program -/
/-- what a row leaves -/
theorem RW1_f {σ τ : Sto} {o : Nat} (h : RW1 σ τ o) (ho : 675 ≤ o) (hp : 0 ≤ σ.I 214 0 ∧ σ.I 214 0 ≤ σ.I 214 1 ∧ σ.I 214 1 ≤ 30000) : τ.2 = σ.2 ∧ (0 ≤ τ.I 214 0 ∧ τ.I 214 0 ≤ τ.I 214 1 ∧ τ.I 214 1 ≤ 30000) ∧ τ.I o 2 = σ.I o 2 + 1 ∧ (1 ≤ τ.I (o + 2) (σ.I o 2) ∧ τ.I (o + 2) (σ.I o 2) ≤ 20) ∧ (∀ k, k ≠ σ.I o 2 → τ.I (o + 2) k = σ.I (o + 2) k) ∧ ∀ c i, c ≠ o → c ≠ o + 1 → c ≠ o + 2 → c ≠ 214 → τ.I c i = σ.I c i := by
  obtain ⟨ρ, s1, ⟨l1, l2, _⟩, υ, r, e⟩ := h
  have v := s1.2.2
  have f : ∀ c i, c ≠ 214 → ρ.I c i = σ.I c i := fun c i q => v.1 c i (fun z => q z.1)
  have g : ∀ c i, υ.I c i = if rg c i (o + 1) (20 * ρ.I o 2) (20 * ρ.I o 2 + byX σ) then ρ.I 1 (ρ.I 214 0 + (i - 20 * ρ.I o 2)) else if at2 c i (o + 2) (ρ.I o 2) then byX σ else if at2 c i o 2 then ρ.I o 2 + 1 else ρ.I c i := fun c i => congrFun (congrFun r.2 c) i
  have u0 : υ.I 214 0 = ρ.I 214 0 := by rw [g, if_neg (fun z => by have := z.1; omega), if_neg (fun z => by have := z.1; omega), if_neg (fun z => by have := z.1; omega)]
  have u1 : υ.I 214 1 = ρ.I 214 1 := by rw [g, if_neg (fun z => by have := z.1; omega), if_neg (fun z => by have := z.1; omega), if_neg (fun z => by have := z.1; omega)]
  have x1 := v.1 214 1 (by omega)
  have x0 := v.2.2
  have t0 : τ.I 214 0 = ρ.I 214 0 + byX σ := by rw [e, I_same, u0]
  have t1 : τ.I 214 1 = σ.I 214 1 := by rw [e, I_nj _ _ _ _ (by decide), u1]; exact x1
  have w : ∀ c i, c ≠ 214 → τ.I c i = υ.I c i := fun c i q => by rw [e, I_ne _ _ _ _ q]
  have fo := f o 2 (by omega)
  refine ⟨?_, by omega, ?_, ?_, fun k hk => ?_, fun c i q1 q2 q3 q4 => ?_⟩
  · rw [e]; exact (Prod.ext r.1.1 (Prod.ext r.1.2.1 r.1.2.2) : υ.2 = ρ.2).trans v.2.1
  · rw [w _ _ (by omega), g, if_neg (fun z => by have := z.1; omega), if_neg (fun z => by have := z.1; omega), if_pos ⟨rfl, rfl⟩, fo]
  · rw [w _ _ (by omega), g, if_neg (fun z => by have := z.1; omega), if_pos ⟨rfl, fo.symm⟩]; exact l2
  · rw [w _ _ (by omega), g, if_neg (fun z => by have := z.1; omega), if_neg (fun z => hk (z.2.trans fo)), if_neg (fun z => by have := z.1; omega)]; exact f _ _ (by omega)
  · rw [w _ _ q4, g, if_neg (fun z => q2 z.1), if_neg (fun z => q3 z.1), if_neg (fun z => q1 z.1)]; exact f _ _ q4
def AX3 (σ ρ : Sto) (f g h : Int) : Prop := ∃ α β, SM1 σ α 0 1 ∧ f = byX σ ∧ SM1 α β 0 2 ∧ g = byX α ∧ SM1 β ρ 0 5 ∧ h = byX β
def AX4 (σ s : Sto) : Prop := ∃ ρ f g h y, AX3 σ ρ f g h ∧ ANAX ρ s y f g h ∧ 0 ≤ y
def hsX (σ : Sto) (o : Nat) : Prop := ∃ k, 0 ≤ k ∧ k < σ.I (o + 1) 2 ∧ σ.I (o + 1 + 2) k = (σ.I (o + 1 + 2) (σ.I (o + 1) 2)) ∧ eqR σ (o + 1 + 1) (20 * k) (o + 1 + 1) (20 * (σ.I (o + 1) 2)) (σ.I (o + 1 + 2) (σ.I (o + 1) 2))
def bkX (υ : Sto) (o : Nat) : Sto := υ.wI (o + 1) 2 (υ.I (o + 1) 2 - 1)
def STX (o : Nat) (ρ τ : Sto) : Prop := ∃ υ, RW1 ρ υ (o + 1) ∧ ¬ hsX (bkX υ o) o ∧ τ = (bkX υ o).wI (o + 1) 2 ((bkX υ o).I (o + 1) 2 + 1)
def SYX (o : Nat) (ρ τ : Sto) : Prop := ∃ υ, RW1 ρ υ (o + 4) ∧ RW1 υ τ (o + 7)
def AX5 (σ s : Sto) (n k : Int) (o : Nat) : Prop := ∃ r α, AX4 σ r ∧ r.R 3 (r.I 0 4 - 1) = some o ∧ SM1 r α 0 20 ∧ n = byX r ∧ RPT (STX o) k.toNat α s
def AX6 (σ s : Sto) (m k : Int) (o : Nat) : Prop := ∃ r α n, AX5 σ r n n o ∧ SM1 r α 0 20 ∧ m = byX r ∧ RPT (SYX o) k.toNat α s
def RAX1 (σ τ : Sto) : Prop := ∃ m o, AX6 σ τ m m o
def RAX0 (σ ρ : Sto) : Prop := SM0 σ ρ 0 1 ∨ (∃ α, SM1 σ α 0 1 ∧ (SM0 α ρ 0 2 ∨ ∃ β, SM1 α β 0 2 ∧ SM0 β ρ 0 5)) ∨ (∃ α f g h y, AX3 σ α f g h ∧ ANAX α ρ y f g h ∧ y < 0) ∨ (∃ r, AX4 σ r ∧ SM0 r ρ 0 20) ∨ (∃ n k o r, AX5 σ r n k o ∧ k < n ∧ (RW0 r ρ ∨ ∃ υ, RW1 r υ (o + 1) ∧ hsX (bkX υ o) o ∧ ρ = bkX υ o)) ∨ (∃ n o r, AX5 σ r n n o ∧ SM0 r ρ 0 20) ∨ (∃ m k o r, AX6 σ r m k o ∧ k < m ∧ (RW0 r ρ ∨ ∃ υ, RW1 r υ (o + 4) ∧ RW0 υ ρ))
/-- how much a store may grow by an analyser and a fault -/
def BGA (σ : Sto) : Prop := σ.n + 11 ≤ NC ∧ ssum σ + 1283 ≤ NS ∧ 675 ≤ σ.n
theorem BGA_B {σ : Sto} (h : BGA σ) : BG σ := ⟨by have := h.1; omega, by have := h.2.1; omega⟩
theorem anN_sum {σ : Sto} {b w : Nat} : ssum (anN (σ.al 110 7) b w) = ssum σ + 1276 := by
  show ssum (anB (anB (anB (σ.al 110 7) b 3) b 4) b 5) = _
  rw [anB_sum, anB_sum, anB_sum, ssum_al]
theorem ANAX_B {σ τ : Sto} {y f g h : Int} (a : ANAX σ τ y f g h) (p : BGA σ) : BG τ := by
  rcases a with ⟨_, _, e⟩ | ⟨_, _, _, e⟩ | ⟨_, _, _, ρ, b, g, _, _, e⟩
  · rw [e]; exact BGA_B p
  · rw [e]; exact BGA_B p
  · have q : τ.2 = ρ.2 := by rw [e]; rfl
    refine BG_e ?_ q
    rcases g with ⟨_, e2⟩ | ⟨_, _, e2⟩
    · rw [e2]; exact BGA_B p
    · rw [e2]
      refine ⟨?_, ?_⟩
      · show (anN (σ.al 110 7) b 2).n + 1 ≤ NC
        show σ.n + 1 + 3 + 3 + 3 + 1 ≤ NC
        have := p.1; omega
      · show ssum (anN (σ.al 110 7) b 2) + 7 ≤ NS
        rw [anN_sum]; have := p.2.1; omega
/-- what is known of the new one -/
theorem ANAX_f {σ τ : Sto} {y f g h : Int} (a : ANAX σ τ y f g h) (y0 : 0 ≤ y) (hp : 0 ≤ σ.I 0 4) (hn : 675 ≤ σ.n) : ∃ o, τ.R 3 (τ.I 0 4 - 1) = some o ∧ At10 τ o ∧ 675 ≤ o ∧ (τ.I (o + 1) 2 = 0 ∧ τ.I (o + 4) 2 = 0 ∧ τ.I (o + 7) 2 = 0) ∧ τ.I 0 4 = σ.I 0 4 + 1 ∧ σ.I 0 4 < 6 ∧ ∀ i, τ.I 214 i = σ.I 214 i := by
  rcases a with ⟨_, e, _⟩ | ⟨_, _, e, _⟩ | ⟨_, l, ey, ρ, b, g, hb, at0, e⟩
  · omega
  · omega
  · have k : ∀ c i, c < 675 → ¬ (c = 0 ∧ i = 4) → τ.I c i = ρ.I c i := fun c i q z => by
      rw [e]; unfold anW
      rw [I_ot _ _ _ _ _ _ z, I_ne _ _ _ _ (by omega), I_ne _ _ _ _ (by omega), I_ne _ _ _ _ (by omega), I_ne _ _ _ _ (by omega), I_ne _ _ _ _ (by omega), I_ne _ _ _ _ (by omega)]
    have eR : τ.R = ρ.R := by rw [e]; rfl
    have e4 : τ.I 0 4 = ρ.I 0 4 + 1 := by rw [e]; exact I_same _ _ _ _
    have r4 : ρ.I 0 4 = σ.I 0 4 ∧ ρ.R 3 (σ.I 0 4) = some b ∧ ∀ i, ρ.I 214 i = σ.I 214 i := by
      rcases g with ⟨g1, g2⟩ | ⟨_, g1, g2⟩
      · rw [g2]; exact ⟨rfl, g1, fun _ => rfl⟩
      · rw [g2]
        exact ⟨anN_I (σ := σ) (a := 0) (b := b) (w := 2) (k := 4) (show 0 < σ.n by omega), R_ws, fun i => anN_I (σ := σ) (a := 214) (b := b) (w := 2) (k := i) (show 214 < σ.n by omega)⟩
    refine ⟨b, by rw [eR, e4, r4.1, show σ.I 0 4 + 1 - 1 = σ.I 0 4 by omega]; exact r4.2.1, ?_, hb, ⟨?_, ?_, ?_⟩, by rw [e4, r4.1], l, fun i => (k 214 i (by omega) (by omega)).trans (r4.2.2 i)⟩
    · have q : SF ρ τ := by rw [e]; exact (SF.wI.tr (SF.wI.tr (SF.wI.tr (SF.wI.tr (SF.wI.tr (SF.wI.tr SF.wI))))))
      exact at0.sf q
    · rw [e]; unfold anW
      rw [I_ne _ _ _ _ (by omega), I_ne _ _ _ _ (by omega), I_ne _ _ _ _ (by omega), I_ne _ _ _ _ (by omega), I_ne _ _ _ _ (by omega), I_ne _ _ _ _ (by omega), I_same]
    · rw [e]; unfold anW
      rw [I_ne _ _ _ _ (by omega), I_ne _ _ _ _ (by omega), I_ne _ _ _ _ (by omega), I_ne _ _ _ _ (by omega), I_ne _ _ _ _ (by omega), I_same]
    · rw [e]; unfold anW
      rw [I_ne _ _ _ _ (by omega), I_ne _ _ _ _ (by omega), I_ne _ _ _ _ (by omega), I_ne _ _ _ _ (by omega), I_same]
end
section
/-! contracts: printed by tools/mk.py out of s98zzzi_rdB.py -/
set_option maxRecDepth 100000
set_option maxHeartbeats 1600000
/-! an analyser is read: the walk -/
theorem BGA_e {σ τ : Sto} (h : BGA σ) (e : τ.2 = σ.2) : BGA τ := by
  have e1 : τ.sh = σ.sh := congrArg (fun x => x.2.1) e
  have e2 : τ.n = σ.n := congrArg (fun x => x.2.2) e
  unfold BGA; rw [ssum_k e1 e2, e2]; exact h
theorem ANZ_e {σ τ : Sto} (h : ANZ σ) (e : τ.2 = σ.2) (g : SF σ τ) : ANZ τ := fun k k0 k1 b hb => by
  have e0 : τ.R = σ.R := congrArg (fun x => x.1) e
  rw [e0] at hb
  exact ⟨(h k k0 k1 b hb).1.sf g, (h k k0 k1 b hb).2⟩

theorem sp_X7_readAnalyser {E : XE} {d : Nat} {σ : Sto}  (hd : 11 ≤ d) (hL : Lay σ)  (p0 : 0 ≤ σ.I 214 0 ∧ σ.I 214 0 ≤ σ.I 214 1 ∧ σ.I 214 1 ≤ 30000) (p1 : 0 ≤ σ.I 0 4 ∧ σ.I 0 4 ≤ 6) (p2 : ANZ σ) (p3 : BGA σ) : CC E mX7_readAnalyser d [aO 214] σ (RTV (fun τ => (RAX1 σ τ)) (fun a τ => (SF σ τ) ∧ (∃ ρ, RAX0 σ ρ ∧ FA ρ τ a))) := by sorry
end
section
/-! contracts: printed by tools/mk.py out of s98zzzj_allX.py -/
set_option maxRecDepth 100000
set_option maxHeartbeats 1600000
/-! all is read: the program -/
def s0X (σ : Sto) (n : Int) : Sto := (σ.wI 214 0 2).wI 214 1 (n - 4)
def flO (β : Sto) (k a : Int) : Prop := (k = 0 → 0 ≤ a ∧ a < β.I 0 4) ∧ (k ≠ 0 → a = 0)
def FLP (ρ τ : Sto) (y f g : Int) : Prop := (y = if (f < 0 ∨ 4 < f ∨ f = 0 ∧ ¬ (0 ≤ g ∧ g < ρ.I 0 4)) then -1 else if ρ.I 0 9 = 12 then -3 else ρ.I 0 9) ∧ (RD ρ τ (fun c i => if (¬ (f < 0 ∨ 4 < f ∨ f = 0 ∧ ¬ (0 ≤ g ∧ g < ρ.I 0 4)) ∧ ρ.I 0 9 ≠ 12) ∧ at2 c i 16 (ρ.I 0 9) then f else if (¬ (f < 0 ∨ 4 < f ∨ f = 0 ∧ ¬ (0 ≤ g ∧ g < ρ.I 0 4)) ∧ ρ.I 0 9 ≠ 12) ∧ at2 c i 17 (ρ.I 0 9) then if f = 0 then g else 0 else if (¬ (f < 0 ∨ 4 < f ∨ f = 0 ∧ ¬ (0 ≤ g ∧ g < ρ.I 0 4)) ∧ ρ.I 0 9 ≠ 12) ∧ at2 c i 0 9 then ρ.I 0 9 + 1 else ρ.I c i))
def FL3 (σ β : Sto) (k a : Int) : Prop := ∃ α, SM1 σ α 0 4 ∧ k = byX σ ∧ SM1 α β 0 6 ∧ a = byX α
def FLX1 (σ τ : Sto) : Prop := ∃ β k a y, FL3 σ β k a ∧ flO β k a ∧ FLP β τ y k a ∧ 0 ≤ y
def FLX0 (σ ρ : Sto) : Prop := SM0 σ ρ 0 4 ∨ (∃ α, SM1 σ α 0 4 ∧ SM0 α ρ 0 6) ∨ (∃ k a, FL3 σ ρ k a ∧ ¬ flO ρ k a) ∨ (∃ β k a y, FL3 σ β k a ∧ flO β k a ∧ FLP β ρ y k a ∧ y < 0)
def XA2 (σ s : Sto) (x n k : Int) : Prop := ∃ α, SM1 (s0X σ x) α 0 6 ∧ n = byX (s0X σ x) ∧ RPT RAX1 k.toNat α s
def XA3 (σ s : Sto) (x n k : Int) : Prop := ∃ r α m, XA2 σ r x m m ∧ SM1 r α 0 12 ∧ n = byX r ∧ RPT FLX1 k.toNat α s
def XF (σ s : Sto) (x n k f a : Int) : Prop := ∃ r, XA3 σ r x n k ∧ FL3 r s f a
def XA4 (σ s : Sto) (x w : Int) : Prop := ∃ r m, XA3 σ r x m m ∧ NU1 r s 4 ∧ w = oN r
def XA5 (σ s : Sto) (x w k : Int) : Prop := ∃ r, XA4 σ r x w ∧ (0 ≤ w ∧ w ≤ 600) ∧ RPT OBJ1 k.toNat r s
def XA6 (σ s : Sto) (x w v : Int) : Prop := ∃ r, XA5 σ r x w w ∧ NU1 r s 4 ∧ v = oN r
def okE (s : Sto) (v : Int) : Prop := s.I 0 39 ≤ v ∧ v ≤ 600 ∧ s.I 214 0 = s.I 214 1
def XH (σ τ : Sto) (x w v : Int) : Prop := ∃ s, XA6 σ s x w v ∧ okE s v ∧ RPT HOL (τ.I 0 39 - s.I 0 39).toNat s τ ∧ s.I 0 39 ≤ τ.I 0 39
def XAL1 (σ τ : Sto) (x y : Int) : Prop := ∃ v, XH σ τ x y v ∧ τ.I 0 39 = v
def XAL0 (σ ρ : Sto) (x : Int) : Prop := SM0 (s0X σ x) ρ 0 6 ∨ (∃ n k r, XA2 σ r x n k ∧ k < n ∧ RAX0 r ρ) ∨ (∃ n r, XA2 σ r x n n ∧ SM0 r ρ 0 12) ∨ (∃ n k r, XA3 σ r x n k ∧ k < n ∧ FLX0 r ρ) ∨ (∃ n r, XA3 σ r x n n ∧ NU0 r ρ 4) ∨ (∃ w, XA4 σ ρ x w ∧ ¬ (0 ≤ w ∧ w ≤ 600)) ∨ (∃ w k r, XA5 σ r x w k ∧ k < w ∧ OBJ0 r ρ) ∨ (∃ w r, XA5 σ r x w w ∧ NU0 r ρ 4) ∨ (∃ w v, XA6 σ ρ x w v ∧ ¬ okE ρ v)
/-- a property that an import keeps, from its start on -/
def CLXN (I : Sto → Prop) : Prop := CLX I ∧ ∀ ρ, I ρ → (ANZ ρ ∧ BGA ρ ∧ 0 ≤ ρ.I 0 4 ∧ ρ.I 0 4 ≤ 6) ∧ (∀ τ, RAX1 ρ τ → I τ) ∧ (∀ τ, FLX1 ρ τ → I τ) ∧ (∀ τ, OBJ1 ρ τ → I τ)

theorem sp_X7_all {E : XE} {d : Nat} {σ : Sto} {I : Sto → Prop} {x1 : Int} (hd : 24 ≤ d) (hL : Lay σ)  (p0 : CLXN I) (p1 : I (s0X σ x1)) (p2 : 16 ≤ x1 ∧ x1 ≤ 30000) : CC E mX7_all d [aO 214, aI (x1)] σ (RTI (fun y τ => (XAL1 σ τ x1 y)) (fun a τ => (SF σ τ) ∧ (∃ ρ, XAL0 σ ρ x1 ∧ FA ρ τ a))) := by sorry
end
section
/-! contracts: printed by tools/mk.py out of s98zzzk_impI.py -/
set_option maxRecDepth 100000
set_option maxHeartbeats 1600000
/-! a paper is read in: the program -/
def TKIm (σ τ : Sto) : Prop := Ch (fun c i => at2 c i 0 1) σ τ ∧ τ.I 0 1 = 0
def IMI (I : Sto → Prop) : Prop := CLXN I ∧ (∀ ς ρ n, I (s0X ς n) → XAL0 ς ρ n → 675 ≤ ρ.n) ∧ ∀ ς ρ n y, I (s0X ς n) → XAL1 ς ρ n y → 0 ≤ ρ.I 0 41 ∧ ρ.I 0 41 ≤ 1000000
def hdI7 (σ : Sto) : Prop := 16 ≤ σ.I 0 1 ∧ σ.I 1 0 = 83 ∧ σ.I 1 1 = 72
def emX (σ : Sto) : Prop := σ.I 0 4 ≤ 0 ∧ σ.I 0 9 ≤ 0 ∧ σ.I 0 39 ≤ 0
def suX (σ : Sto) : Prop := suN (σ.I 1) (σ.I 0 1 - 4) 4 = w32 (smH (σ.I 1) (σ.I 0 1 - 4))
/-- nothing is left -/
def CLRX (β τ : Sto) : Prop := ∃ υ, RD β υ (fun c i => if rg c i 25 0 8192 then -1 else if at2 c i 18 7 then 0 else β.I c i) ∧ τ = ((((((((υ.wI 0 20 0).wI 0 22 0).wI 0 29 0).wI 0 30 0).wI 0 31 0).wI 0 32 0).wI 0 39 0).wI 0 4 0).wI 0 9 0
/-- all has come -/
def DNX (ρ τ : Sto) : Prop := ∃ γ, RD ρ γ (fun c i => if at2 c i 0 41 ∨ at2 c i 0 40 then ρ.I 0 41 + 1 else if fgX c i then 0 else ρ.I c i) ∧ τ = γ.wI 0 42 (ρ.I 0 41 + 1)
def IMX (σ τ : Sto) (y : Int) : Prop := (¬ emX σ ∧ y = -2 ∧ TKIm σ τ) ∨ (emX σ ∧ ¬ hdI7 σ ∧ y = -11 ∧ TKIm σ τ) ∨ (emX σ ∧ hdI7 σ ∧ ¬ suX σ ∧ y = -12 ∧ TKIm σ τ) ∨ (emX σ ∧ hdI7 σ ∧ suX σ ∧ ∃ α, TKIm σ α ∧ ((∃ ρ β a, XAL0 α ρ (σ.I 0 1) ∧ FA ρ β a ∧ y = -13 ∧ CLRX β τ) ∨ (∃ ρ, XAL1 α ρ (σ.I 0 1) y ∧ DNX ρ τ)))
theorem CLRX_a {β τ : Sto} {a : Nat} (h : CLRX β τ) (ha : 675 ≤ a) : τ.I a 0 = β.I a 0 := by
  obtain ⟨υ, r, e⟩ := h
  rw [e, I_ne _ _ _ _ (by omega), I_ne _ _ _ _ (by omega), I_ne _ _ _ _ (by omega), I_ne _ _ _ _ (by omega), I_ne _ _ _ _ (by omega), I_ne _ _ _ _ (by omega), I_ne _ _ _ _ (by omega), I_ne _ _ _ _ (by omega), I_ne _ _ _ _ (by omega), r.2]
  show (if _ then _ else if _ then _ else _) = _
  rw [if_neg (fun z => by have := z.1; omega), if_neg (fun z => by have := z.1; omega)]

theorem sp_X0_imported {E : XE} {d : Nat} {σ : Sto} {I : Sto → Prop} (hd : 25 ≤ d) (hL : Lay σ)  (p0 : IMI I) (p1 : emX σ → hdI7 σ → ∀ ς, TKIm σ ς → I (s0X ς (σ.I 0 1))) (p2 : 0 ≤ σ.I 0 1 ∧ σ.I 0 1 ≤ 30000) : CC E mX0_imported d [aO 0] σ (RVI (fun y τ => (IMX σ τ y))) := by sorry
end
