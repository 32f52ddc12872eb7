section
/-! contracts: printed by tools/mk.py out of s98zp_likeC.py -/
set_option maxRecDepth 100000
set_option maxHeartbeats 1200000
/-! likeness: the walk -/
def RG0 (σ ς : Sto) : Prop := (ς.R = σ.R ∧ ς.sh = σ.sh ∧ ς.n = σ.n) ∧ ς.I = fun c i => if fgM c i then 0 else σ.I c i
def AK1 (ω κ : Sto) : Prop := (κ.R = ω.R ∧ κ.sh = ω.sh ∧ κ.n = ω.n) ∧ κ.I = fun c i => if c = 599 then ω.I c i + cn (fun s => nOf (ω.I 598) (ω.I 555 58) s = i) (ω.I 555 57) else ω.I c i
def LKB (σ κ : Sto) (v : Int) : Prop := ∃ ς ω, RG0 σ ς ∧ NRW ς ω v ∧ AK1 ω κ
def LEX (τ : Sto) : Prop := ∀ k, 0 ≤ k → k < τ.I 555 148 → (0 ≤ τ.I 662 k ∧ τ.I 662 k < 24000) ∧ (0 ≤ τ.I 666 k ∧ τ.I 666 k < 12) ∧ 0 ≤ τ.I 663 k ∧ τ.I 663 k ≤ cnL τ (τ.I 666 k)
def ENV (τ : Sto) : Prop := BAS τ ∧ WOB τ ∧ WKB τ ∧ bd_0_1 τ 601 601 ∧ TRW τ ∧ (0 ≤ τ.I 555 148 ∧ τ.I 555 148 ≤ 24000) ∧ LEX τ ∧ bd_0_23999 τ 662 24000
theorem cnL_e {σ τ : Sto} (e : ∀ c, c = 579 ∨ c = 595 ∨ c = 596 ∨ c = 601 ∨ c = 602 → τ.I c = σ.I c) : cnL τ = cnL σ := by
  funext f
  unfold cnL mHV mV
  rw [e 579 (by omega), e 595 (by omega), e 596 (by omega), e 601 (by omega), e 602 (by omega)]
theorem ENV_e {σ τ : Sto} (h : ENV σ) (e : ∀ c i, (558 ≤ c ∧ c ≤ 564) ∨ (565 ≤ c ∧ c ≤ 576) ∨ (577 ≤ c ∧ c ≤ 597) ∨ c = 601 ∨ c = 602 ∨ (621 ≤ c ∧ c ≤ 636) ∨ (661 ≤ c ∧ c ≤ 666) ∨ (c = 555 ∧ (i = 30 ∨ i = 27 ∨ i = 148)) → τ.I c i = σ.I c i) : ENV τ := by
  have k : ∀ c, c = 579 ∨ c = 595 ∨ c = 596 ∨ c = 601 ∨ c = 602 ∨ c = 662 ∨ c = 663 ∨ c = 666 → τ.I c = σ.I c := fun c q => funext fun i => e c i (by omega)
  have n1 : τ.I 555 148 = σ.I 555 148 := e _ _ (by omega)
  have n2 : τ.I 555 30 = σ.I 555 30 := e _ _ (by omega)
  obtain ⟨a1, a2, a3, a4, a5, a6, a7, a8⟩ := h
  refine ⟨BAS_e a1 (fun c i q => e c i (by omega)), ?_, WKB_c a3 (fun c i q => e c i (by omega)), bd_0_1_eq a4 (k _ (by omega)), TRW_e a5 (fun c i q => e c i (by omega)), by rw [n1]; exact a6, ?_, bd_0_23999_eq a8 (k _ (by omega))⟩
  · unfold WOB; rw [k 601 (by omega), k 595 (by omega), k 596 (by omega), n2]; exact a2
  · unfold LEX; rw [n1, k 662 (by omega), k 666 (by omega), k 663 (by omega), cnL_e (fun c q => k c (by omega))]; exact a7
theorem LEX_mk {κ μ : Sto} {g n : Int} (hL : LTB μ (VW κ g n) n) (hK : KLi κ μ) (hW : WOB κ) (hO : OB κ 595 596) (hF : ∀ v, 0 ≤ v → v < κ.I 555 30 → 0 ≤ κ.I 579 v ∧ κ.I 579 v < 12) (hS : ∀ f, 0 ≤ f → f < 12 → κ.I 602 f = 0 ∨ κ.I 602 f = 1) (hn : n ≤ 601) : LEX μ := by
  intro k k0 k1
  have ec : ∀ c, c = 579 ∨ c = 595 ∨ c = 596 ∨ c = 601 ∨ c = 602 → μ.I c = κ.I c := fun c q => funext fun i => hK.2 _ _ (by unfold wsLi; omega)
  have kb := hL.2.1.2.2.2.2.1 k k0 (by have := hL.2.1.1; omega)
  have vb : ∀ t f o, VW κ g n t f o → (0 ≤ f ∧ f < 12) ∧ (κ.I 601 o = 1 ∧ mHV κ f o) := by
    rintro t f o ⟨ho, v, a1, a2, a3, a4, a5, a6⟩
    have ob := hO o ho.1 (by omega)
    have wo := hW o ho.1 (by omega) a2
    have fb := hF v (by omega) (by omega)
    rw [a4] at fb
    refine ⟨fb, a2, v - κ.I 595 o, by omega, by show v - κ.I 595 o < κ.I 596 o; omega, ?_⟩
    show κ.I 579 (κ.I 595 o + (v - κ.I 595 o)) = f ∧ κ.I 602 f = 1
    rw [show κ.I 595 o + (v - κ.I 595 o) = v by omega]
    exact ⟨a4, (hS f fb.1 fb.2).resolve_left a6⟩
  obtain ⟨o, q⟩ := hL.2.2.2.1 k k0 k1
  have c := hL.2.2.2.2.2.1 k k0 k1
  have c0 := cn_in (hoM μ (VW κ g n) k) 601
  have im := cn_imp (p := hoM μ (VW κ g n) k) (q := fun o => κ.I 601 o = 1 ∧ mHV κ (μ.I 666 k) o) (fun o ⟨t, x, _⟩ => (vb _ _ _ x).2) 601
  rw [show ((601 : Nat) : Int) = 601 from rfl] at im
  refine ⟨by omega, (vb _ _ _ q).1, by omega, ?_⟩
  rw [c, cnL_e (σ := κ) (τ := μ) ec]
  exact im
theorem FVE_mk {τ : Sto} {n : Int} (h : LEX τ) (hb : τ.I 555 148 ≤ 24000) (hq : ∀ i, 0 ≤ i → i < n → 0 ≤ τ.I 671 i ∧ τ.I 671 i < τ.I 555 148) : FVE τ n := by
  intro i i0 i1
  have q := hq i i0 i1
  have l := h _ q.1 q.2
  exact ⟨⟨q.1, by omega⟩, l.2.1, l.1, l.2.2⟩
theorem fi_e {μ τ : Sto} (h : Ch wsFi μ τ) : se5 τ = se5 μ ∧ wt5 τ = wt5 μ := by
  have e : ∀ c, c = 579 ∨ c = 582 ∨ c = 586 ∨ c = 587 ∨ c = 590 ∨ c = 595 ∨ c = 596 ∨ c = 601 ∨ c = 602 ∨ c = 662 ∨ c = 663 ∨ c = 666 → τ.I c = μ.I c := fun c q => funext fun i => h.2 _ _ (by unfold wsFi; omega)
  have ci : ciM τ = ciM μ := by
    funext o f t a n
    unfold ciM cvM tqM odM mV tcM
    rw [e 579 (by omega), e 582 (by omega), e 586 (by omega), e 587 (by omega), e 590 (by omega), e 595 (by omega), e 602 (by omega)]
  have cl : cnL τ = cnL μ := cnL_e (fun c q => e c (by omega))
  constructor
  · funext o k; unfold se5; rw [ci, e 666 (by omega), e 662 (by omega), e 596 (by omega)]
  · funext o k; unfold wt5; rw [ci, cl, e 666 (by omega), e 662 (by omega), e 596 (by omega), e 663 (by omega)]
theorem lk_e {β τ : Sto} (h : Ch wsHi β τ) : lkH τ = lkH β ∧ lkS τ = lkS β := by
  have e : ∀ c, c = 579 ∨ c = 582 ∨ c = 586 ∨ c = 587 ∨ c = 590 ∨ c = 595 ∨ c = 596 ∨ c = 601 ∨ c = 602 ∨ c = 662 ∨ c = 663 ∨ c = 666 ∨ c = 671 → τ.I c = β.I c := fun c q => funext fun i => h.2 _ _ (by unfold wsHi; omega)
  have e98 : τ.I 555 98 = β.I 555 98 := h.2 _ _ (by unfold wsHi; omega)
  have ci : ciM τ = ciM β := by
    funext o f t a n
    unfold ciM cvM tqM odM mV tcM
    rw [e 579 (by omega), e 582 (by omega), e 586 (by omega), e 587 (by omega), e 590 (by omega), e 595 (by omega), e 602 (by omega)]
  have cl : cnL τ = cnL β := cnL_e (fun c q => e c (by omega))
  have to : mTO τ = mTO β := by funext f o; unfold mTO mV tcM; rw [e 579 (by omega), e 582 (by omega), e 595 (by omega), e 596 (by omega), e 602 (by omega)]
  have aT : mAT τ = mAT β := by funext f; unfold mAT; rw [to, e 601 (by omega)]
  have cL : ciL τ = ciL β := by funext o i; unfold ciL; rw [ci, e 666 (by omega), e 671 (by omega), e 662 (by omega), e 596 (by omega)]
  have fd : fdL τ = fdL β := by funext i; unfold fdL; rw [e 666 (by omega), e 671 (by omega)]
  have wg : wgL τ = wgL β := by funext o i; unfold wgL; rw [e98, cl, fd, cL, aT, to, e 663 (by omega), e 671 (by omega)]
  constructor
  · funext o n; unfold lkH; rw [cL]
  · funext o n; unfold lkS; rw [cL, wg]
def LKL (σ κ μ : Sto) (v : Int) : Prop := LKB σ κ v ∧ LTB μ (VW κ (-1) (κ.I 555 52)) (κ.I 555 52) ∧ KLi κ μ
def LK6 (σ τ : Sto) (v o x n : Int) : Prop := ∃ κ μ, LKL σ κ μ v ∧ F65 μ τ o x n
def LK4 (σ τ : Sto) (v o x n p : Int) : Prop := ∃ κ μ, LKL σ κ μ v ∧ F14 μ τ o x n p
noncomputable def scK (β : Sto) (n q : Int) : Int := min 1000000000000000 (lkS β q n)
def seK (β : Sto) (o n q : Int) : Prop := β.I 601 q = 1 ∧ q ≠ o ∧ lkH β q n
def LK2 (σ τ : Sto) (v o n x : Int) : Prop := ∃ κ μ β, LKL σ κ μ v ∧ F65 μ β o (μ.I 555 148) n ∧ LKI β τ (seK β o n) (scK β n) x
/-- what likeness leaves -/
def LKM (σ τ : Sto) (v o : Int) : Prop := ∃ ψ n, LK2 σ ψ v o n (σ.I 555 52) ∧ (τ.R = ψ.R ∧ τ.sh = ψ.sh ∧ τ.n = ψ.n) ∧ τ.I = fun c i => if at2 c i 555 114 then 2 else if rg c i 639 0 12 then ψ.I 602 i else ψ.I c i
section LKS
variable {σ τ υ : Sto} {v o x n p : Int}
theorem LK6_n (h : LK6 σ τ v o x n) (hn : ¬ se5 τ o x) : LK6 σ τ v o (x + 1) n := by
  obtain ⟨κ, μ, a, b⟩ := h
  exact ⟨κ, μ, a, F65_n b (by rw [← (fi_e b.1).1]; exact hn)⟩
theorem LK4_0 (h : LK6 σ τ v o x n) (hs : se5 τ o x) (e : υ = τ.wI 670 x (wt5 τ o x)) : LK4 σ υ v o x n n := by
  obtain ⟨κ, μ, a, b⟩ := h
  rw [(fi_e b.1).1] at hs
  rw [(fi_e b.1).2] at e
  exact ⟨κ, μ, a, F14_0 b hs e⟩
theorem LK4_s (h : LK4 σ τ v o x n p) (h0 : 0 ≤ x) (hp : 0 < p) (hn : p ≤ n) (hl : hvM τ x (τ.I 671 (p - 1))) (e : υ = τ.wI 671 p (τ.I 671 (p - 1))) : LK4 σ υ v o x n (p - 1) := by
  obtain ⟨κ, μ, a, b⟩ := h
  have q := F14_b b hn (i := p - 1) (by omega) (by omega)
  exact ⟨κ, μ, a, F14_s b hp hn ((F14_hv b h0 q.1.1 q.1.2 q.2).mp hl) e⟩
theorem LK4_e (h : LK4 σ τ v o x n p) (h0 : 0 ≤ x) (h1 : x < τ.I 555 148) (hp : 0 ≤ p) (hn : p ≤ n) (hl : 0 < p → ¬ hvM τ x (τ.I 671 (p - 1))) (e : υ = τ.wI 671 p x) : LK6 σ υ v o (x + 1) (min 5 (n + 1)) := by
  obtain ⟨κ, μ, a, b⟩ := h
  have e1 : τ.I 555 148 = μ.I 555 148 := b.1.2 _ _ (by unfold wsFi; omega)
  refine ⟨κ, μ, a, F14_e b hp hn ⟨h0, h1⟩ (by rw [e1]; exact hv5_sto a.2.1) (fun q w => ?_) e⟩
  have z := F14_b b hn (i := p - 1) (by omega) (by omega)
  exact hl q ((F14_hv b h0 z.1.1 z.1.2 z.2).mpr w)
theorem LK4_b (h : LK4 σ τ v o x n p) (hp : p ≤ n) (h0 : 0 < p) : 0 ≤ τ.I 671 (p - 1) ∧ τ.I 671 (p - 1) < x := by
  obtain ⟨κ, μ, a, b⟩ := h
  exact (F14_b b hp (i := p - 1) (by omega) (by omega)).1
theorem LK4_n (h : LK4 σ τ v o x n p) : 0 ≤ n ∧ n ≤ 5 := by
  obtain ⟨κ, μ, a, _, _, _, φ, c, _⟩ := h
  exact c.1
theorem LK6_b (h : LK6 σ τ v o x n) : (0 ≤ n ∧ n ≤ 5) ∧ ∀ i, 0 ≤ i → i < n → 0 ≤ τ.I 671 i ∧ τ.I 671 i < x := by
  obtain ⟨κ, μ, a, _, _, c⟩ := h
  exact ⟨c.1, fun i i0 i1 => (c.2.1 i i0 i1).1⟩
theorem LK2_0 (h : LK6 σ τ v o x n) (hx : x = τ.I 555 148) (hc : τ.I 555 115 = 0) (hb : bd_0_600 τ 637 600) : LK2 σ τ v o n 0 := by
  obtain ⟨κ, μ, a, b⟩ := h
  have e1 : τ.I 555 148 = μ.I 555 148 := b.1.2 _ _ (by unfold wsFi; omega)
  exact ⟨κ, μ, τ, a, by rw [← e1, ← hx]; exact b, LKI_0 hc hb⟩
theorem LK2_n (h : LK2 σ τ v o n x) (hs : ¬ (τ.I 601 x = 1 ∧ x ≠ o ∧ lkH τ x n)) : LK2 σ τ v o n (x + 1) := by
  obtain ⟨κ, μ, β, a, b, c⟩ := h
  refine ⟨κ, μ, β, a, b, LKI_no c (fun z => hs ?_)⟩
  rw [(lk_e c.1).1, show τ.I 601 x = β.I 601 x from c.1.2 _ _ (by unfold wsHi; omega)]
  exact z
theorem LK2_y (h : LK2 σ τ v o n x) (h0 : 0 ≤ x) (h1 : x < 600) (hs : τ.I 601 x = 1 ∧ x ≠ o ∧ lkH τ x n) (e : RD τ υ (fun c i => if rg c i 637 (ip (fun j => bfM (τ.I 652) (τ.I 651) (τ.I 555 132) x (min 1000000000000000 (lkS τ x n)) (τ.I 637 j) (τ.I 638 j) 0) (τ.I 555 115) + 1) ((τ.I 555 115) + 1) ∨ rg c i 638 (ip (fun j => bfM (τ.I 652) (τ.I 651) (τ.I 555 132) x (min 1000000000000000 (lkS τ x n)) (τ.I 637 j) (τ.I 638 j) 0) (τ.I 555 115) + 1) ((τ.I 555 115) + 1) then τ.I c (i - 1) else if at2 c i 637 (ip (fun j => bfM (τ.I 652) (τ.I 651) (τ.I 555 132) x (min 1000000000000000 (lkS τ x n)) (τ.I 637 j) (τ.I 638 j) 0) (τ.I 555 115)) then x else if at2 c i 638 (ip (fun j => bfM (τ.I 652) (τ.I 651) (τ.I 555 132) x (min 1000000000000000 (lkS τ x n)) (τ.I 637 j) (τ.I 638 j) 0) (τ.I 555 115)) then (min 1000000000000000 (lkS τ x n)) else if at2 c i 555 115 then τ.I 555 115 + 1 else τ.I c i)) : LK2 σ υ v o n (x + 1) ∧ Ch wsHi τ υ := by
  obtain ⟨κ, μ, β, a, b, c⟩ := h
  have es := (lk_e c.1).2
  have hs' : seK β o n x := by
    rw [(lk_e c.1).1, show τ.I 601 x = β.I 601 x from c.1.2 _ _ (by unfold wsHi; omega)] at hs
    exact hs
  obtain ⟨r, e⟩ := e
  rw [es] at e
  have q := LKI_add (υ := υ) c h0 h1 hs' e r
  refine ⟨⟨κ, μ, β, a, b, q⟩, r, fun d i z => ?_⟩
  exact (q.1.2 d i z).trans (c.1.2 d i z).symm
theorem LK2_b (h : LK2 σ τ v o n x) : (0 ≤ τ.I 555 115 ∧ τ.I 555 115 ≤ x) ∧ bd_0_600 τ 637 600 ∧ (∀ i, 0 ≤ i → i < n → 0 ≤ τ.I 671 i ∧ τ.I 671 i < τ.I 555 148) ∧ 0 ≤ n ∧ n ≤ 5 := by
  obtain ⟨κ, μ, β, a, b, c⟩ := h
  have e1 : τ.I 555 148 = β.I 555 148 := c.1.2 _ _ (by unfold wsHi; omega)
  have e2 : β.I 555 148 = μ.I 555 148 := b.1.2 _ _ (by unfold wsFi; omega)
  refine ⟨c.2.1, c.2.2.2.2, fun i i0 i1 => ?_, b.2.2.1⟩
  rw [show τ.I 671 i = β.I 671 i from c.1.2 _ _ (by unfold wsHi; omega), e1, e2]
  exact (b.2.2.2.1 i i0 i1).1
end LKS

theorem sp_X9_like {E : XE} {d : Nat} {σ : Sto} {x1 : Int} {x2 : Int} (hd : 512 ≤ d) (hL : Lay σ)  (p0 : inR x1) (p1 : 0 ≤ σ.I 555 52 ∧ σ.I 555 52 ≤ 600) (p2 : 0 ≤ σ.I 555 61 ∧ σ.I 555 61 < 4) (p3 : 0 ≤ σ.I 608 (σ.I 555 61) ∧ σ.I 608 (σ.I 555 61) ≤ 400) (p4 : 0 ≤ σ.I 555 27 ∧ σ.I 555 27 ≤ 12) (p5 : BAS σ) (p6 : WKB σ) (p7 : 0 ≤ (if x1 = -1 then σ.I 555 53 else if 0 ≤ x1 ∧ x1 ≤ 3 then σ.I 597 x1 else -1) → WOH σ (if x1 = -1 then σ.I 555 53 else if 0 ≤ x1 ∧ x1 ≤ 3 then σ.I 597 x1 else -1)) (p8 : σ.I 555 61 ≠ 0 → 0 < σ.I 608 (σ.I 555 61) → qok (eQ σ 607 (400 * σ.I 555 61) (σ.I 608 (σ.I 555 61))) = 1) (p9 : inR x2) (p10 : TRW σ) (p11 : (1 ≤ σ.I 555 58 ∧ σ.I 555 58 ≤ 8) ∧ (1 ≤ σ.I 555 57 ∧ σ.I 555 57 ≤ 8)) (p12 : bd_0_1000000 σ 599 8) (p13 : bd_0_600 σ 637 600) (p14 : bd_0_23999 σ 662 24000) (p15 : inR (if x1 = -1 then σ.I 555 53 else if 0 ≤ x1 ∧ x1 ≤ 3 then σ.I 597 x1 else -1)) (p16 : ∀ v, 0 ≤ v → v < σ.I 555 30 → 0 ≤ σ.I 579 v ∧ σ.I 579 v < 12) : CC E mX9_like d [aO 555, aI (x1), aI (x2)] σ (RVI (fun y τ => ((¬ (0 ≤ (if x1 = -1 then σ.I 555 53 else if 0 ≤ x1 ∧ x1 ≤ 3 then σ.I 597 x1 else -1) ∧ 0 ≤ x2 ∧ x2 < σ.I 555 52) ∧ y = -1 ∧ RD σ τ (fun c i => if fgM c i then 0 else σ.I c i)) ∨ ((0 ≤ (if x1 = -1 then σ.I 555 53 else if 0 ≤ x1 ∧ x1 ≤ 3 then σ.I 597 x1 else -1) ∧ 0 ≤ x2 ∧ x2 < σ.I 555 52) ∧ y = -1 ∧ τ.I 601 x2 = 0 ∧ ∃ ς, RG0 σ ς ∧ NRW ς τ (if x1 = -1 then σ.I 555 53 else if 0 ≤ x1 ∧ x1 ≤ 3 then σ.I 597 x1 else -1)) ∨ ((0 ≤ (if x1 = -1 then σ.I 555 53 else if 0 ≤ x1 ∧ x1 ≤ 3 then σ.I 597 x1 else -1) ∧ 0 ≤ x2 ∧ x2 < σ.I 555 52) ∧ y = -4 ∧ ¬ alN (fun s => 0 ≤ nOf (σ.I 598) (σ.I 555 58) s) (σ.I 555 57) ∧ τ.I 601 x2 ≠ 0 ∧ ∃ ς, RG0 σ ς ∧ NRW ς τ (if x1 = -1 then σ.I 555 53 else if 0 ≤ x1 ∧ x1 ≤ 3 then σ.I 597 x1 else -1)) ∨ ((0 ≤ (if x1 = -1 then σ.I 555 53 else if 0 ≤ x1 ∧ x1 ≤ 3 then σ.I 597 x1 else -1) ∧ 0 ≤ x2 ∧ x2 < σ.I 555 52) ∧ alN (fun s => 0 ≤ nOf (σ.I 598) (σ.I 555 58) s) (σ.I 555 57) ∧ y = τ.I 555 115 ∧ LKM σ τ (if x1 = -1 then σ.I 555 53 else if 0 ≤ x1 ∧ x1 ≤ 3 then σ.I 597 x1 else -1) x2)) ∧ (WKB τ) ∧ (bd_0_600 τ 637 600))) := by sorry
end
section
/-! contracts: printed by tools/mk.py out of s98zq_impM.py -/
set_option maxRecDepth 100000
set_option maxHeartbeats 1200000
/-! what is read of a paper: the model -/
def gtN (A : Int → Int) (b : Int) : Nat → Int
  | 0 => A b
  | k + 1 => b64or (b64shl (gtN A b k) 8) (b32and (A (b + ((k + 1 : Nat) : Int))) 255)
/-- n bytes as a number -/
def gtF (A : Int → Int) (b n : Int) : Int := gtN A b (n - 1).toNat
theorem gtF_1 (A : Int → Int) (b : Int) : gtF A b 1 = A b := rfl
theorem gtF_s (A : Int → Int) (b n : Int) (h : 1 ≤ n) : gtF A b (n + 1) = b64or (b64shl (gtF A b n) 8) (b32and (A (b + n)) 255) := by
  unfold gtF
  rw [show (n + 1 - 1).toNat = (n - 1).toNat + 1 by omega]
  show b64or (b64shl (gtN A b (n - 1).toNat) 8) (b32and (A (b + (((n - 1).toNat + 1 : Nat) : Int))) 255) = _
  rw [show (((n - 1).toNat + 1 : Nat) : Int) = n by omega]
theorem or64_L (x y : Int) : inL (b64or x y) := by
  have h := (Int64.ofInt x ||| Int64.ofInt y).toBitVec.toInt_lt
  have g := (Int64.ofInt x ||| Int64.ofInt y).toBitVec.le_toInt
  have e : b64or x y = (Int64.ofInt x ||| Int64.ofInt y).toBitVec.toInt := rfl
  unfold inL
  rw [e]
  omega

theorem sp_X9_must {E : XE} {d : Nat} {σ : Sto} {x1 : Int} (hd : 2 ≤ d) (hL : Lay σ)  (p0 : 0 ≤ x1 ∧ x1 ≤ 1) : CC E mX9_must d [aO 555, aI (x1)] σ (RTV (fun τ => (x1 ≠ 0) ∧ (τ = σ)) (fun a τ => (SF σ τ) ∧ (a = 556) ∧ (τ = σ) ∧ (x1 = 0))) := by sorry
theorem sp_X9_get {E : XE} {d : Nat} {σ : Sto} {x1 : Int} (hd : 2 ≤ d) (hL : Lay σ)  (p0 : 1 ≤ x1 ∧ x1 ≤ 8) (p1 : 0 ≤ σ.I 555 76 ∧ σ.I 555 76 ≤ σ.I 555 77 ∧ σ.I 555 77 ≤ 30000) : CC E mX9_get d [aO 555, aI (x1)] σ (RTL (fun y τ => (y = gtF (σ.I 557) (σ.I 555 76) x1) ∧ (τ = σ.wI 555 76 (σ.I 555 76 + x1)) ∧ (σ.I 555 76 + x1 ≤ σ.I 555 77)) (fun a τ => (SF σ τ) ∧ (a = 556) ∧ (τ = σ) ∧ (σ.I 555 77 < σ.I 555 76 + x1))) := by sorry
theorem sp_X9_count {E : XE} {d : Nat} {σ : Sto} {x1 : Int} (hd : 4 ≤ d) (hL : Lay σ)  (p0 : 0 ≤ σ.I 555 76 ∧ σ.I 555 76 ≤ σ.I 555 77 ∧ σ.I 555 77 ≤ 30000) (p1 : inR x1) : CC E mX9_count d [aO 555, aI (x1)] σ (RTI (fun y τ => (y = gtF (σ.I 557) (σ.I 555 76) 1 % 256 ∧ y ≤ x1) ∧ (τ = σ.wI 555 76 (σ.I 555 76 + 1)) ∧ (σ.I 555 76 + 1 ≤ σ.I 555 77)) (fun a τ => (SF σ τ) ∧ (a = 556) ∧ ((σ.I 555 77 < σ.I 555 76 + 1 ∧ τ = σ) ∨ (σ.I 555 76 + 1 ≤ σ.I 555 77 ∧ x1 < gtF (σ.I 557) (σ.I 555 76) 1 % 256 ∧ τ = σ.wI 555 76 (σ.I 555 76 + 1))))) := by sorry
end
section
/-! contracts: printed by tools/mk.py out of s98zr_textO.py -/
set_option maxRecDepth 100000
set_option maxHeartbeats 1200000
/-- the tape is taken -/
def TKT (σ ς : Sto) : Prop := Ch (fun c i => at2 c i 555 2) σ ς ∧ ς.I 555 2 = 0
theorem AC_t {σ τ : Sto} (h : AC σ) (e : ∀ c i, 558 ≤ c ∧ c ≤ 564 → τ.I c i = σ.I c i) : AC τ := by
  have k : ∀ c, 558 ≤ c ∧ c ≤ 564 → τ.I c = σ.I c := fun c q => funext fun i => e c i q
  obtain ⟨a1, a2, a3, a4, a5, a6⟩ := h
  exact ⟨bd_0_1_eq a1 (k _ (by omega)), bd_0_2_eq a2 (k _ (by omega)), bd_0_5_eq a3 (k _ (by omega)), bd_0_20_eq a4 (k _ (by omega)), bd_0_20_eq a5 (k _ (by omega)), bd_0_20_eq a6 (k _ (by omega))⟩

theorem sp_X9_text {E : XE} {d : Nat} {σ : Sto} {x1 : Int} (hd : 21 ≤ d) (hL : Lay σ)  (p0 : 0 ≤ σ.I 555 45 ∧ σ.I 555 45 ≤ σ.I 555 30) (p1 : σ.I 555 30 ≤ 6000 ∧ σ.I 555 30 ≤ σ.I 555 45 + 24) (p2 : 0 ≤ σ.I 555 38 ∧ σ.I 555 38 ≤ 60000) (p3 : 0 ≤ σ.I 555 44 ∧ σ.I 555 44 ≤ 24000) (p4 : inR x1) (p5 : 0 ≤ σ.I 555 2 ∧ σ.I 555 2 ≤ 30000) (p6 : 0 ≤ σ.I 555 27 ∧ σ.I 555 27 ≤ 12) (p7 : AC σ) (p8 : bd_0_20 σ 573 300) (p9 : bd_0_20 σ 587 24000) (p10 : (0 ≤ x1 ∧ x1 < σ.I 555 27 ∧ σ.I 577 x1 = 0) → 0 ≤ σ.I 578 x1 ∧ σ.I 578 x1 < 6) : CC E mX9_text d [aO 555, aI (x1)] σ (RVI (fun y τ => (∃ ς, TKT σ ς ∧ ((¬ (((0 ≤ x1 ∧ x1 < ς.I 555 27 ∧ ς.I 577 x1 = 0) ∨ ((0 ≤ x1 ∧ x1 < ς.I 555 27 ∧ ς.I 577 x1 = 1) ∧ (σ.I 555 2) ≠ 0)) ∧ (σ.I 555 2) ≤ 1000) ∧ y = -1 ∧ τ = ς) ∨ ((((0 ≤ x1 ∧ x1 < ς.I 555 27 ∧ ς.I 577 x1 = 0) ∨ ((0 ≤ x1 ∧ x1 < ς.I 555 27 ∧ ς.I 577 x1 = 1) ∧ (σ.I 555 2) ≠ 0)) ∧ (σ.I 555 2) ≤ 1000) ∧ (ς.I 555 30 - ς.I 555 45 = 24 ∨ 60000 < ς.I 555 38 + (σ.I 555 2) ∨ 24000 < ς.I 555 44 + (lT ς x1 (ς.I 557) 0 (σ.I 555 2)).1 ∨ ς.I 555 30 = 6000) ∧ y = -3 ∧ KB ς τ) ∨ ((((0 ≤ x1 ∧ x1 < ς.I 555 27 ∧ ς.I 577 x1 = 0) ∨ ((0 ≤ x1 ∧ x1 < ς.I 555 27 ∧ ς.I 577 x1 = 1) ∧ (σ.I 555 2) ≠ 0)) ∧ (σ.I 555 2) ≤ 1000) ∧ ¬ (ς.I 555 30 - ς.I 555 45 = 24 ∨ 60000 < ς.I 555 38 + (σ.I 555 2) ∨ 24000 < ς.I 555 44 + (lT ς x1 (ς.I 557) 0 (σ.I 555 2)).1 ∨ ς.I 555 30 = 6000) ∧ y = ς.I 555 30 + 1 - ς.I 555 45 ∧ TXM ς τ x1 (ς.I 557) 0 (σ.I 555 2) (lT ς x1 (ς.I 557) 0 (σ.I 555 2))))) ∧ (bd_0_20 τ 573 300) ∧ (bd_0_20 τ 587 24000))) := by sorry
end
section
/-! contracts: printed by tools/mk.py out of s98zs_textP.py -/
set_option maxRecDepth 100000
set_option maxHeartbeats 1200000
/-- the program's tape is taken -/
def TKX (σ ς : Sto) : Prop := Ch (fun c i => at2 c i 0 1) σ ς ∧ ς.I 0 1 = 0
def gdX (ς : Sto) (f n : Int) : Prop := ((0 ≤ f ∧ f < ς.I 0 9) ∧ (ς.I 16 f = 0 ∨ (ς.I 16 f = 1 ∧ n ≠ 0))) ∧ n ≤ 1000
def myX (ς : Sto) (f n : Int) : Prop := ς.I 0 20 - ς.I 0 31 < 24 ∧ ς.I 0 20 < 6000 ∧ ς.I 0 22 + n ≤ 60000 ∧ ς.I 0 29 + ς.I 0 30 + (lTX ς f (ς.I 1) 0 n).1 ≤ 24000
def CMX (υ τ : Sto) (f : Int) : Prop := (τ.R = υ.R ∧ τ.sh = υ.sh ∧ τ.n = υ.n) ∧ τ.I = fun c i => if at2 c i 26 (υ.I 0 20) then f else if at2 c i 0 20 then υ.I 0 20 + 1 else υ.I c i
/-- what a text leaves -/
def TXP (σ τ : Sto) (y f n : Int) : Prop := ∃ ς, TKX σ ς ∧ ((¬ gdX ς f n ∧ y = -1 ∧ τ = ς) ∨ (gdX ς f n ∧ ¬ myX ς f n ∧ y = -3 ∧ KXt 10 ς τ) ∨ (gdX ς f n ∧ myX ς f n ∧ y = ς.I 0 20 + 1 - ς.I 0 31 ∧ ∃ υ, TXX ς υ f (ς.I 1) 0 n (lTX ς f (ς.I 1) 0 n) ∧ CMX υ τ f))

theorem sp_X0_text {E : XE} {d : Nat} {σ : Sto} {x1 : Int} (hd : 22 ≤ d) (hL : Lay σ)  (p0 : inR x1) (p1 : 0 ≤ σ.I 0 31 ∧ σ.I 0 31 ≤ σ.I 0 20) (p2 : σ.I 0 20 ≤ 6000 ∧ σ.I 0 20 ≤ σ.I 0 31 + 24) (p3 : 0 ≤ σ.I 0 22 ∧ σ.I 0 22 ≤ 60000) (p4 : 0 ≤ σ.I 0 29 ∧ 0 ≤ σ.I 0 30) (p5 : σ.I 0 29 + σ.I 0 30 ≤ 24000) (p6 : 0 ≤ σ.I 0 1 ∧ σ.I 0 1 ≤ 30000) (p7 : 0 ≤ σ.I 0 9 ∧ σ.I 0 9 ≤ 12) (p8 : (0 ≤ x1 ∧ x1 < σ.I 0 9) → σ.I 16 x1 = 0 → 0 ≤ σ.I 17 x1 ∧ σ.I 17 x1 < σ.I 0 4) (p9 : AN σ) (p10 : ANX σ) (p11 : bd_0_20 σ 12 250) (p12 : TC σ) (p13 : TU σ) (p14 : 0 ≤ σ.I 18 7 ∧ σ.I 18 7 ≤ 30000) (p15 : bd_0_20 σ 21 36500) (p16 : bd_0_12 σ 20 36500) (p17 : σ.I 0 4 ≤ 6) : CC E mX0_text d [aO 0, aI (x1)] σ (RVI (fun y τ => (TXP σ τ y x1 (σ.I 0 1)) ∧ (bd_0_20 τ 12 250))) := by sorry
end
section
/-! contracts: printed by tools/mk.py out of s98zt_tellX.py -/
set_option maxRecDepth 100000
set_option maxHeartbeats 1200000
/-! terms of a world: the program -/
def TUB (τ : Sto) : Prop := TU τ ∧ bd_m128_127 τ 19 730000
theorem TUB_e {σ τ : Sto} (h : TUB σ) (e : ∀ c i, 18 ≤ c → c ≤ 25 → τ.I c i = σ.I c i) : TUB τ := ⟨TU_e h.1 e, bd_m128_127_eq h.2 (funext fun i => e _ _ (by decide) (by decide))⟩
def ltT (β : Sto) (ch ow : Int → Int) (a b : Int) : Prop := (ch a ≠ ch b ∧ ch a < ch b) ∨ (ch a = ch b ∧ ((ow a ≠ ow b ∧ ow b < ow a) ∨ (ow a = ow b ∧ odX β a b < 0)))
theorem ltT_sto {β : Sto} {ch ow : Int → Int} {f : Int} (hU : TUB β) (hz : bd_0_20 β 21 36500) (hc : β.I 18 7 ≤ 36500) : STO (fun t => (0 ≤ t ∧ t < β.I 18 7) ∧ β.I 20 t = f) (ltT β ch ow) := by
  have hb : ∀ a, (0 ≤ a ∧ a < β.I 18 7) ∧ β.I 20 a = f → 0 ≤ β.I 21 a ∧ β.I 21 a ≤ 20 := fun a q => hz a q.1.1 (by omega)
  have ng : ∀ a b, (0 ≤ a ∧ a < β.I 18 7) ∧ β.I 20 a = f → (0 ≤ b ∧ b < β.I 18 7) ∧ β.I 20 b = f → odX β b a = - odX β a b := fun a b ha hb' => by
    have q1 := hb a ha
    have q2 := hb b hb'
    exact od_neg _ _ _ _ _ _ 1000 0 (by omega) (by omega) (by omega) (by omega)
  have z1 : ∀ a b, (0 ≤ a ∧ a < β.I 18 7) ∧ β.I 20 a = f → (0 ≤ b ∧ b < β.I 18 7) ∧ β.I 20 b = f → odX β a b = 0 → ¬ a < b := fun a b ha hb' q w => by
    have q1 := hb a ha
    have q2 := hb b hb'
    obtain ⟨x, y⟩ := od_z _ _ _ _ _ _ 1000 0 (by omega) (by omega) (by omega) (by omega) (by omega) (by omega) q
    refine hU.1 a b ha.1.1 w hb'.1.2 ⟨ha.2.trans hb'.2.symm, x, fun k k0 k1 => ?_⟩
    have m := y k k0 (by omega)
    have m1 := hU.2 (20 * a + k) (by omega) (by omega)
    have m2 := hU.2 (20 * b + k) (by omega) (by omega)
    omega
  have z0 : ∀ a b, (0 ≤ a ∧ a < β.I 18 7) ∧ β.I 20 a = f → (0 ≤ b ∧ b < β.I 18 7) ∧ β.I 20 b = f → odX β a b = 0 → a = b := fun a b ha hb' q => by
    have q1 := z1 a b ha hb' q
    have q2 := z1 b a hb' ha (by have := ng a b ha hb'; omega)
    omega
  have tr : ∀ a b c, (0 ≤ a ∧ a < β.I 18 7) ∧ β.I 20 a = f → (0 ≤ b ∧ b < β.I 18 7) ∧ β.I 20 b = f → (0 ≤ c ∧ c < β.I 18 7) ∧ β.I 20 c = f → 0 ≤ odX β a b → 0 ≤ odX β b c → 0 ≤ odX β a c := fun a b c ha hb' hc' q w => by
    have q1 := hb a ha
    have q2 := hb b hb'
    have q3 := hb c hc'
    exact od_tr _ _ _ _ _ _ _ _ _ 1000 0 (by omega) (by omega) (by omega) (by omega) (by omega) q w
  refine ⟨fun a ha q => ?_, fun a b c ha hb' hc' q w => ?_, fun a b ha hb' hn => ?_⟩
  · have n1 := ng a a ha ha
    unfold ltT at q
    omega
  · have n1 := ng a b ha hb'
    have n2 := ng b c hb' hc'
    have n3 := ng a c ha hc'
    have t1 := tr c b a hc' hb' ha
    unfold ltT at q w ⊢
    by_cases e : a = c
    · subst e; omega
    · have t3 : odX β a c ≠ 0 := fun z => e (z0 a c ha hc' z)
      by_cases u : odX β a b < 0 ∧ odX β b c < 0
      · have t4 := t1 (by omega) (by omega)
        omega
      · omega
  · have t3 : odX β a b ≠ 0 := fun z => hn (z0 a b ha hb' z)
    have n1 := ng a b ha hb'
    unfold ltT
    omega
def wsTt (c : Nat) (i : Int) : Prop := c = 81 ∨ (201 ≤ c ∧ c ≤ 203) ∨ (c = 0 ∧ i = 88)
def stT (β : Sto) (ch ow : Int → Int) (f t : Int) : Prop := β.I 20 t = f ∧ ch t ≤ 2 ∧ 0 < ow t
/-- the ten first of the first x terms -/
def TTI (β τ : Sto) (ch ow : Int → Int) (f x : Int) : Prop := Ch wsTt β τ ∧ TopK (fun t => (0 ≤ t ∧ t < x) ∧ stT β ch ow f t) (ltT β ch ow) 10 (τ.I 0 88) (τ.I 201) ∧ (∀ i, 0 ≤ i → i < τ.I 0 88 → τ.I 202 i = ow (τ.I 201 i) ∧ τ.I 203 i = ch (τ.I 201 i)) ∧ bd_0_36499 τ 201 11
section TTS
variable {β τ υ : Sto} {ch ow : Int → Int} {f x : Int}
theorem TTI_0 (h : β.I 0 88 = 0) (hb : bd_0_36499 β 201 11) : TTI β β ch ow f 0 := ⟨Ch.rf, by rw [h]; exact TopK_0 (fun x z => by have := z.1; omega) (by omega), fun i a b => by omega, hb⟩
theorem TTI_k (h : TTI β τ ch ow f x) (c : Ch wsC τ υ) : TTI β υ ch ow f x := by
  obtain ⟨a, b, d, e⟩ := h
  have k : ∀ c i, c ≠ 81 → υ.I c i = τ.I c i := fun c' i q => c.2 c' i (fun z => q z.1)
  have e1 : υ.I 201 = τ.I 201 := funext fun i => k _ _ (by decide)
  have e2 : υ.I 0 88 = τ.I 0 88 := k _ _ (by decide)
  refine ⟨Ch.tr a (Ch.mono c (fun c i q => Or.inl q.1)), by rw [e1, e2]; exact b, fun i i0 i1 => ?_, bd_0_36499_eq e e1⟩
  rw [e1, k _ _ (by decide), k _ _ (by decide)]
  rw [e2] at i1
  exact d i i0 i1
theorem TTI_n (h : TTI β τ ch ow f x) (hs : ¬ stT β ch ow f x) : TTI β τ ch ow f (x + 1) := by
  obtain ⟨a, c, d, g⟩ := h
  refine ⟨a, TopK_cg c (fun y => ?_) (fun _ _ _ _ => Iff.rfl) (fun _ _ _ => rfl), d, g⟩
  constructor
  · rintro ⟨z1, z2⟩
    refine ⟨⟨z1.1, ?_⟩, z2⟩
    rcases (show y < x ∨ y = x by omega) with w | w
    · exact w
    · rw [w] at z2; contradiction
  · rintro ⟨z1, z2⟩; exact ⟨⟨z1.1, by omega⟩, z2⟩
theorem TTI_b (h : TTI β τ ch ow f x) : (0 ≤ τ.I 0 88 ∧ τ.I 0 88 ≤ 10) ∧ ∀ i, 0 ≤ i → i < τ.I 0 88 → 0 ≤ τ.I 201 i ∧ τ.I 201 i < x := ⟨h.2.1.1, fun i a b => (h.2.1.2.1 i a b).1⟩
theorem TTI_add (h : TTI β τ ch ow f x) (h0 : 0 ≤ x) (h1 : x < β.I 18 7) (hc : β.I 18 7 ≤ 36500) (hU : TUB β) (hz : bd_0_20 β 21 36500) (hs : stT β ch ow f x)
    (e2 : υ.I = fun c i => if rg c i 201 (ip (fun j => tbX τ x (ow x) (ch x) j) (τ.I 0 88) + 1) ((τ.I 0 88) + 1) ∨ rg c i 202 (ip (fun j => tbX τ x (ow x) (ch x) j) (τ.I 0 88) + 1) ((τ.I 0 88) + 1) ∨ rg c i 203 (ip (fun j => tbX τ x (ow x) (ch x) j) (τ.I 0 88) + 1) ((τ.I 0 88) + 1) then τ.I c (i - 1)
      else if at2 c i 201 (ip (fun j => tbX τ x (ow x) (ch x) j) (τ.I 0 88)) then x else if at2 c i 202 (ip (fun j => tbX τ x (ow x) (ch x) j) (τ.I 0 88)) then ow x else if at2 c i 203 (ip (fun j => tbX τ x (ow x) (ch x) j) (τ.I 0 88)) then ch x else if at2 c i 0 88 then min (τ.I 0 88 + 1) 10 else τ.I c i)
    (r1 : υ.R = τ.R ∧ υ.sh = τ.sh ∧ υ.n = τ.n) : TTI β υ ch ow f (x + 1) := by
  obtain ⟨ha, hT, hd, hg⟩ := h
  have cc : ∀ c i, ¬ wsTt c i → τ.I c i = β.I c i := ha.2
  have hT1 := hT.1
  obtain ⟨p, hp⟩ : ∃ p, p = ip (fun j => tbX τ x (ow x) (ch x) j) (τ.I 0 88) := ⟨_, rfl⟩
  have ipb := ip_b (fun j => tbX τ x (ow x) (ch x) j) (τ.I 0 88) (by omega)
  rw [← hp] at ipb e2
  have eo : odX τ = odX β := by
    funext a b; unfold odX
    rw [show τ.I 19 = β.I 19 from funext fun i => cc _ _ (by unfold wsTt; omega), show τ.I 21 = β.I 21 from funext fun i => cc _ _ (by unfold wsTt; omega)]
  have hq : ∀ j, 0 ≤ j → j < τ.I 0 88 → (tbX τ x (ow x) (ch x) j ↔ ltT β ch ow x (τ.I 201 j)) := fun j j0 j1 => by
    have k := hd j j0 j1
    unfold tbX ltT
    rw [eo, show τ.I 202 j = ow (τ.I 201 j) from k.1, show τ.I 203 j = ch (τ.I 201 j) from k.2]
  have hn1 : υ.I 0 88 = min (τ.I 0 88 + 1) 10 := by rw [e2]; grind
  have gen : ∀ (c : Nat) (w : Int), (c = 201 ∧ w = x) ∨ (c = 202 ∧ w = ow x) ∨ (c = 203 ∧ w = ch x) → ∀ i, 0 ≤ i → i < τ.I 0 88 + 1 → υ.I c i = if i < p then τ.I c i else if i = p then w else τ.I c (i - 1) := fun c w hw i i0 i1 => by
    rw [e2]
    show (if rg _ _ _ _ _ ∨ rg _ _ _ _ _ ∨ rg _ _ _ _ _ then _ else if at2 _ _ _ _ then _ else if at2 _ _ _ _ then _ else if at2 _ _ _ _ then _ else if at2 _ _ _ _ then _ else _) = _
    rcases hw with ⟨rfl, rfl⟩ | ⟨rfl, rfl⟩ | ⟨rfl, rfl⟩ <;> rcases (show i < p ∨ i = p ∨ p < i by omega) with z | z | z <;> unfold rg at2 <;> grind
  have hh := gen 201 x (by omega)
  have ho : ∀ c i, ¬ (201 ≤ c ∧ c ≤ 203) → ¬ (c = 0 ∧ i = 88) → υ.I c i = τ.I c i := fun c i a1 a3 => by
    rw [e2]; show (if rg _ _ _ _ _ ∨ rg _ _ _ _ _ ∨ rg _ _ _ _ _ then _ else if at2 _ _ _ _ then _ else if at2 _ _ _ _ then _ else if at2 _ _ _ _ then _ else if at2 _ _ _ _ then _ else _) = _
    rw [if_neg (fun z => z.elim (fun y => by have := y.1; omega) (fun y => y.elim (fun w => by have := w.1; omega) (fun w => by have := w.1; omega))), if_neg (fun z => by have := z.1; omega), if_neg (fun z => by have := z.1; omega), if_neg (fun z => by have := z.1; omega), if_neg (fun z => a3 z)]
  refine ⟨?_, ?_, fun i i0 i1 => ?_, fun i i0 i1 => ?_⟩
  · refine ⟨⟨r1.1.trans ha.1.1, r1.2.1.trans ha.1.2.1, r1.2.2.trans ha.1.2.2⟩, fun c i q => ?_⟩
    rw [ho c i (fun z => q (by unfold wsTt; omega)) (fun z => q (by unfold wsTt; omega))]
    exact cc c i q
  · rw [hn1]
    have t := TopK_ins (n' := min (τ.I 0 88 + 1) 10) (f' := υ.I 201) (p := p) (x := x) hT (fun z => by have := z.1; omega) ((ltT_sto (f := f) hU hz hc).mono (fun y hy => by
      rcases hy with w | w
      · exact ⟨⟨w.1.1, by have := w.1.2; omega⟩, w.2.1⟩
      · rw [w]; exact ⟨⟨h0, h1⟩, hs.1⟩)) ipb.1 (fun i a c => (hq i (by omega) c).mp (ipb.2.1 i a c)) (fun a c => ipb.2.2 a ((hq (p - 1) (by omega) (by omega)).mpr c)) (by omega) (by omega) (fun i a c => hh i a (by omega))
    refine TopK_cg t (fun y => ?_) (fun _ _ _ _ => Iff.rfl) (fun _ _ _ => rfl)
    constructor
    · rintro ⟨z1, z2⟩
      rcases (show y < x ∨ y = x by omega) with w | w
      · exact Or.inl ⟨⟨z1.1, w⟩, z2⟩
      · exact Or.inr w
    · rintro (⟨z1, z2⟩ | z)
      · exact ⟨⟨z1.1, by omega⟩, z2⟩
      · rw [z]; exact ⟨⟨h0, by omega⟩, hs⟩
  · rw [hn1] at i1
    rw [hh i i0 (by omega), gen 202 (ow x) (by omega) i i0 (by omega), gen 203 (ch x) (by omega) i i0 (by omega)]
    rcases (show i < p ∨ i = p ∨ p < i by omega) with z | z | z
    · rw [if_pos z, if_pos z, if_pos z]; exact hd i i0 (by omega)
    · rw [if_neg (by omega), if_pos z, if_neg (by omega), if_pos z, if_neg (by omega), if_pos z]; exact ⟨rfl, rfl⟩
    · rw [if_neg (by omega), if_neg (by omega), if_neg (by omega), if_neg (by omega), if_neg (by omega), if_neg (by omega)]; exact hd (i - 1) (by omega) (by omega)
  · rcases Int.lt_or_le i (τ.I 0 88 + 1) with w | w
    · rw [hh i i0 w]
      split
      · exact hg i i0 i1
      · split
        · omega
        · exact hg (i - 1) (by omega) (by omega)
    · have u : υ.I 201 i = τ.I 201 i := by
        rw [e2]; show (if rg _ _ _ _ _ ∨ rg _ _ _ _ _ ∨ rg _ _ _ _ _ then _ else if at2 _ _ _ _ then _ else if at2 _ _ _ _ then _ else if at2 _ _ _ _ then _ else if at2 _ _ _ _ then _ else _) = _
        rw [if_neg (fun z => z.elim (fun y => by have := y.2.2; omega) (fun y => y.elim (fun w => absurd w.1 (by decide)) (fun w => absurd w.1 (by decide)))), if_neg (fun z => by have := z.2; omega), if_neg (fun z => absurd z.1 (by decide)), if_neg (fun z => absurd z.1 (by decide)), if_neg (fun z => absurd z.1 (by decide))]
      rw [u]; exact hg i i0 i1
end TTS
theorem owX_t {β τ : Sto} (e : ∀ c, (16 ≤ c ∧ c < 80) ∨ c = 137 → τ.I c = β.I c) : owX τ 136 = owX β 136 := by
  have h1 : wkQ τ = wkQ β := by funext t v; unfold wkQ; rw [e 16 (by omega), e 26 (by omega), e 33 (by omega)]
  have h2 : tkQ τ = tkQ β := by funext t v; unfold tkQ; rw [e 36 (by omega)]
  have h3 : obT τ = obT β := by funext k; unfold obT; rw [e 27 (by omega), e 38 (by omega)]
  have h4 : sn τ 136 = sn β 136 := by funext k; unfold sn; rw [e (136 + 1) (by omega)]
  funext t K V
  unfold owX
  rw [h1, h2, h3, h4, e 16 (by omega), e 20 (by omega), e 27 (by omega)]
end
section
/-! contracts: printed by tools/mk.py out of s98zu_tellC.py -/
set_option maxRecDepth 100000
set_option maxHeartbeats 1200000
/-! tellTerms: the walk -/
def TY0 (σ ς : Sto) : Prop := (ς.R = σ.R ∧ ς.sh = σ.sh ∧ ς.n = σ.n) ∧ ς.I = fun c i => if c = 211 then σ.I c i + cn (fun s => nOf (σ.I 210) (σ.I 0 96) s = i) (σ.I 0 95) else if c = 0 ∧ (i = 1 ∨ i = 88) then 0 else σ.I c i
def WNY (ς β : Sto) (K V v : Int) : Prop := ((β.I (121 + 15) 6 = 0 ∧ β.I (121 + 15) 7 = ς.I 0 39 ∧ β.I (121 + 15) 8 = 0) ∧ β.I (121 + 15) 1 = (if 0 < ς.I 0 46 then ς.I (ubX ς) 2 else 0)) ∧ SEX ς β 121 K V v ∧ KMw 121 ς β
noncomputable def chT (β : Sto) (n sp t : Int) : Int := if sp ≠ 0 then min (ed (β.I 1) 0 (β.I 19) (20 * t) n (β.I 21 t)) (2 + 1) else if zb (n ≤ β.I 21 t ∧ eqA (β.I 19) (β.I 1) (20 * t) 0 n) = 1 then 0 else 3
theorem tt_e {β τ : Sto} (h : Ch wsTt β τ) : chT τ = chT β ∧ owX τ 136 = owX β 136 ∧ τ.I 20 = β.I 20 := by
  have e : ∀ c, (1 ≤ c ∧ c < 80) ∨ c = 137 → τ.I c = β.I c := fun c q => funext fun i => h.2 _ _ (by unfold wsTt; omega)
  refine ⟨?_, owX_t (fun c q => e c (by omega)), e _ (by omega)⟩
  funext n sp t
  unfold chT
  rw [e 1 (by omega), e 19 (by omega), e 21 (by omega)]
def TT1 (σ τ : Sto) (K V v f n sp x : Int) : Prop := ∃ ς β, TY0 σ ς ∧ WNY ς β K V v ∧ ¬ bt32 (β.I 136 1) f ∧ (TUB β ∧ bd_0_20 β 21 36500 ∧ β.I 18 7 ≤ 36500) ∧ TTI β τ (chT β n sp) (fun t => owX β 136 t K V) f x
section TTW
variable {σ τ υ : Sto} {K V v f n sp x d c : Int}
theorem TT1_n (h : TT1 σ τ K V v f n sp x) (hs : ¬ (τ.I 20 x = f ∧ chT τ n sp x ≤ 2 ∧ 0 < owX τ 136 x K V)) : TT1 σ τ K V v f n sp (x + 1) := by
  obtain ⟨ς, β, a, b, g, w, t⟩ := h
  obtain ⟨e1, e2, e3⟩ := tt_e t.1
  rw [e1, e2, e3] at hs
  exact ⟨ς, β, a, b, g, w, TTI_n t hs⟩
theorem TT1_k (h : TT1 σ τ K V v f n sp x) (k : KC τ υ) : TT1 σ υ K V v f n sp x := by
  obtain ⟨ς, β, a, b, g, w, t⟩ := h
  exact ⟨ς, β, a, b, g, w, TTI_k t k⟩
theorem TT1_b (h : TT1 σ τ K V v f n sp x) : (0 ≤ τ.I 0 88 ∧ τ.I 0 88 ≤ 10) ∧ (∀ i, 0 ≤ i → i < τ.I 0 88 → 0 ≤ τ.I 201 i ∧ τ.I 201 i < x) ∧ bd_0_36499 τ 201 11 := by
  obtain ⟨ς, β, a, b, g, w, t⟩ := h
  exact ⟨(TTI_b t).1, (TTI_b t).2, t.2.2.2⟩
theorem TT1_y (h : TT1 σ τ K V v f n sp x) (h0 : 0 ≤ x) (h1 : x < τ.I 18 7) (hf : τ.I 20 x = f) (hc : c = chT τ n sp x) (hc2 : c ≤ 2) (hd : d = owX τ 136 x K V) (hd2 : 0 < d)
    (e2 : υ.I = fun e i => if rg e i 201 (ip (fun j => tbX τ x d c j) (τ.I 0 88) + 1) ((τ.I 0 88) + 1) ∨ rg e i 202 (ip (fun j => tbX τ x d c j) (τ.I 0 88) + 1) ((τ.I 0 88) + 1) ∨ rg e i 203 (ip (fun j => tbX τ x d c j) (τ.I 0 88) + 1) ((τ.I 0 88) + 1) then τ.I e (i - 1)
      else if at2 e i 201 (ip (fun j => tbX τ x d c j) (τ.I 0 88)) then x else if at2 e i 202 (ip (fun j => tbX τ x d c j) (τ.I 0 88)) then d else if at2 e i 203 (ip (fun j => tbX τ x d c j) (τ.I 0 88)) then c else if at2 e i 0 88 then min (τ.I 0 88 + 1) 10 else τ.I e i)
    (r1 : υ.R = τ.R ∧ υ.sh = τ.sh ∧ υ.n = τ.n) : TT1 σ υ K V v f n sp (x + 1) ∧ Ch wsTt τ υ := by
  obtain ⟨ς, β, a, b, g, w, t⟩ := h
  obtain ⟨q1, q2, q3⟩ := tt_e t.1
  have q18 : τ.I 18 7 = β.I 18 7 := t.1.2 _ _ (by unfold wsTt; omega)
  rw [q1] at hc
  rw [q2] at hd
  rw [q3] at hf
  rw [hc] at e2 hc2
  rw [hd] at e2 hd2
  have z := TTI_add (υ := υ) t h0 (by omega) w.2.2 w.1 w.2.1 ⟨hf, hc2, hd2⟩ e2 r1
  exact ⟨⟨ς, β, a, b, g, w, z⟩, r1, fun d i q => (z.1.2 d i q).trans (t.1.2 d i q).symm⟩
def wsT2 (c : Nat) (i : Int) : Prop := c = 204 ∨ c = 205
def FTY (ψ τ : Sto) (x : Int) : Prop := ∀ j, 0 ≤ j → j < x → τ.I 205 j = ψ.I 21 (ψ.I 201 j) ∧ ∀ k, 0 ≤ k → k < ψ.I 21 (ψ.I 201 j) → τ.I 204 (20 * j + k) = ψ.I 19 (20 * ψ.I 201 j + k)
def TT2 (σ τ : Sto) (K V v f n sp x : Int) : Prop := ∃ ψ, TT1 σ ψ K V v f n sp (ψ.I 18 7) ∧ Ch wsT2 ψ τ ∧ FTY ψ τ x
theorem TT2_b (h : TT2 σ τ K V v f n sp x) : (0 ≤ τ.I 0 88 ∧ τ.I 0 88 ≤ 10) ∧ ∀ i, 0 ≤ i → i < τ.I 0 88 → 0 ≤ τ.I 201 i ∧ τ.I 201 i < τ.I 18 7 := by
  obtain ⟨ψ, a, b, _⟩ := h
  have z := TT1_b a
  rw [show τ.I 0 88 = ψ.I 0 88 from b.2 _ _ (by unfold wsT2; omega), show τ.I 18 7 = ψ.I 18 7 from b.2 _ _ (by unfold wsT2; omega)]
  exact ⟨z.1, fun i i0 i1 => by rw [show τ.I 201 i = ψ.I 201 i from b.2 _ _ (by unfold wsT2; omega)]; exact z.2.1 i i0 i1⟩
theorem TT2_s {s1 : Sto} (h : TT2 σ τ K V v f n sp x) (h0 : 0 ≤ x) (hx : x < τ.I 0 88) (hz : bd_0_20 τ 21 36500) (hc : τ.I 18 7 ≤ 36500) (e1 : s1 = τ.wI 205 x (τ.I 21 (τ.I 201 x))) (e2 : υ = s1.cp 19 (20 * s1.I 201 x) 204 (20 * x) (s1.I 205 x)) : TT2 σ υ K V v f n sp (x + 1) := by
  have tb := TT2_b h
  obtain ⟨ψ, a, b, g⟩ := h
  have f1 : s1.I 201 x = τ.I 201 x := by rw [e1, I_ne _ _ _ _ (by decide)]
  have f2 : s1.I 205 x = τ.I 21 (τ.I 201 x) := by rw [e1, I_same]
  have f3 : ∀ c i, c ≠ 205 → s1.I c i = τ.I c i := fun c i q => by rw [e1, I_ne _ _ _ _ q]
  have eb : ∀ c i, c ≠ 204 → c ≠ 205 → τ.I c i = ψ.I c i := fun c i p q => b.2 _ _ (by unfold wsT2; omega)
  rw [f1, f2] at e2
  have u4 : ∀ c i, c ≠ 204 → υ.I c i = s1.I c i := fun c i q => by rw [e2, I_cp, if_neg (fun z => q z.1)]
  have tx := tb.2 x h0 hx
  have sx := hz (τ.I 201 x) tx.1 (by omega)
  refine ⟨ψ, a, ⟨?_, fun c i q => ?_⟩, fun j j0 j1 => ?_⟩
  · have r := b.1
    rw [e2, e1]
    exact r
  · rw [u4 c i (fun z => q (by unfold wsT2; omega)), f3 c i (fun z => q (by unfold wsT2; omega))]; exact b.2 c i q
  · have p1 : ψ.I 201 j = τ.I 201 j := (eb _ _ (by decide) (by decide)).symm
    have p2 : ψ.I 21 (τ.I 201 j) = τ.I 21 (τ.I 201 j) := (eb _ _ (by decide) (by decide)).symm
    have tj := tb.2 j j0 (by omega)
    have sj := hz (τ.I 201 j) tj.1 (by omega)
    rw [p1, p2]
    rcases (show j < x ∨ j = x by omega) with z | z
    · have o := g j j0 z
      rw [p1, p2] at o
      refine ⟨by rw [u4 _ _ (by decide), e1, I_nj _ _ _ _ (by omega)]; exact o.1, fun k k0 k1 => ?_⟩
      rw [e2, I_cp, if_neg (fun w => by have := w.2.1; omega), f3 _ _ (by decide)]
      exact o.2 k k0 k1
    · rw [z]
      rw [z] at sj
      refine ⟨by rw [u4 _ _ (by decide)]; exact f2, fun k k0 k1 => ?_⟩
      rw [e2, I_cp, if_pos ⟨rfl, by omega, by omega⟩, f3 _ _ (by decide), eb _ _ (by decide) (by decide)]
      congr 1; omega
end TTW

theorem sp_X0_tellTerms {E : XE} {d : Nat} {σ : Sto} {K : Int} {V : Int} {x1 : Int} {x2 : Int} {x3 : Int} (hd : 528 ≤ d) (hL : Lay σ)  (p0 : inR x1) (p1 : 0 ≤ σ.I 0 46 ∧ σ.I 0 46 < 4) (p2 : BSX σ K V) (p3 : 0 < σ.I 0 46 → σ.I (ubX σ) 1 ≠ 0 → QLX σ (ubX σ)) (p4 : PBD σ 155) (p5 : inR x2) (p6 : 0 ≤ x3 ∧ x3 ≤ 1) (p7 : (1 ≤ σ.I 0 96 ∧ σ.I 0 96 ≤ 8) ∧ (1 ≤ σ.I 0 95 ∧ σ.I 0 95 ≤ 8)) (p8 : bd_0_1000000 σ 211 8) (p9 : inR (if x1 = -1 then σ.I 0 40 else if 0 ≤ x1 ∧ x1 ≤ 3 then σ.I 48 x1 else -1)) (p10 : 0 ≤ σ.I 0 1 ∧ σ.I 0 1 ≤ 30000) (p11 : TUB σ) (p12 : bd_0_36499 σ 201 11) : CC E mX0_tellTerms d [aO 0, aI (x1), aI (x2), aI (x3)] σ (RVI (fun y τ => ((¬ (0 ≤ (if x1 = -1 then σ.I 0 40 else if 0 ≤ x1 ∧ x1 ≤ 3 then σ.I 48 x1 else -1) ∧ (0 ≤ x2 ∧ x2 < σ.I 0 9) ∧ (σ.I 16 x2 = 0 ∨ σ.I 16 x2 = 1)) ∧ y = -1 ∧ RD σ τ (fun c i => if c = 0 ∧ (i = 1 ∨ i = 88) then 0 else σ.I c i)) ∨ ((0 ≤ (if x1 = -1 then σ.I 0 40 else if 0 ≤ x1 ∧ x1 ≤ 3 then σ.I 48 x1 else -1) ∧ (0 ≤ x2 ∧ x2 < σ.I 0 9) ∧ (σ.I 16 x2 = 0 ∨ σ.I 16 x2 = 1)) ∧ ¬ alN (fun s => 0 ≤ nOf (σ.I 210) (σ.I 0 96) s) (σ.I 0 95) ∧ y = -4 ∧ RD σ τ (fun c i => if c = 0 ∧ (i = 1 ∨ i = 88) then 0 else σ.I c i)) ∨ ((0 ≤ (if x1 = -1 then σ.I 0 40 else if 0 ≤ x1 ∧ x1 ≤ 3 then σ.I 48 x1 else -1) ∧ (0 ≤ x2 ∧ x2 < σ.I 0 9) ∧ (σ.I 16 x2 = 0 ∨ σ.I 16 x2 = 1)) ∧ alN (fun s => 0 ≤ nOf (σ.I 210) (σ.I 0 96) s) (σ.I 0 95) ∧ y = 0 ∧ ∃ ς, TY0 σ ς ∧ WNY ς τ K V (if x1 = -1 then σ.I 0 40 else if 0 ≤ x1 ∧ x1 ≤ 3 then σ.I 48 x1 else -1) ∧ bt32 (τ.I 136 1) x2) ∨ ((0 ≤ (if x1 = -1 then σ.I 0 40 else if 0 ≤ x1 ∧ x1 ≤ 3 then σ.I 48 x1 else -1) ∧ (0 ≤ x2 ∧ x2 < σ.I 0 9) ∧ (σ.I 16 x2 = 0 ∨ σ.I 16 x2 = 1)) ∧ alN (fun s => 0 ≤ nOf (σ.I 210) (σ.I 0 96) s) (σ.I 0 95) ∧ y = τ.I 0 88 ∧ TT2 σ τ K V (if x1 = -1 then σ.I 0 40 else if 0 ≤ x1 ∧ x1 ≤ 3 then σ.I 48 x1 else -1) x2 (if x3 ≠ 0 then min (σ.I 0 1) 20 else σ.I 0 1) x3 (τ.I 0 88))) ∧ (PBD τ 155))) := by sorry
end
section
/-! contracts: printed by tools/mk.py out of s98zv_sugX.py -/
set_option maxRecDepth 100000
set_option maxHeartbeats 1200000
theorem sp_X0_suggest {E : XE} {d : Nat} {σ : Sto} {K : Int} {V : Int} {x1 : Int} {x2 : Int} (hd : 529 ≤ d) (hL : Lay σ)  (p0 : inR x1) (p1 : 0 ≤ σ.I 0 46 ∧ σ.I 0 46 < 4) (p2 : BSX σ K V) (p3 : 0 < σ.I 0 46 → σ.I (ubX σ) 1 ≠ 0 → QLX σ (ubX σ)) (p4 : PBD σ 155) (p5 : inR x2) (p6 : (1 ≤ σ.I 0 96 ∧ σ.I 0 96 ≤ 8) ∧ (1 ≤ σ.I 0 95 ∧ σ.I 0 95 ≤ 8)) (p7 : bd_0_1000000 σ 211 8) (p8 : inR (if x1 = -1 then σ.I 0 40 else if 0 ≤ x1 ∧ x1 ≤ 3 then σ.I 48 x1 else -1)) (p9 : 0 ≤ σ.I 0 1 ∧ σ.I 0 1 ≤ 30000) (p10 : TUB σ) (p11 : bd_0_36499 σ 201 11) : CC E mX0_suggest d [aO 0, aI (x1), aI (x2)] σ (RVI (fun y τ => ((¬ (0 ≤ (if x1 = -1 then σ.I 0 40 else if 0 ≤ x1 ∧ x1 ≤ 3 then σ.I 48 x1 else -1) ∧ (0 ≤ x2 ∧ x2 < σ.I 0 9) ∧ (σ.I 16 x2 = 0 ∨ σ.I 16 x2 = 1)) ∧ y = -1 ∧ RD σ τ (fun c i => if c = 0 ∧ (i = 1 ∨ i = 88) then 0 else σ.I c i)) ∨ ((0 ≤ (if x1 = -1 then σ.I 0 40 else if 0 ≤ x1 ∧ x1 ≤ 3 then σ.I 48 x1 else -1) ∧ (0 ≤ x2 ∧ x2 < σ.I 0 9) ∧ (σ.I 16 x2 = 0 ∨ σ.I 16 x2 = 1)) ∧ ¬ alN (fun s => 0 ≤ nOf (σ.I 210) (σ.I 0 96) s) (σ.I 0 95) ∧ y = -4 ∧ RD σ τ (fun c i => if c = 0 ∧ (i = 1 ∨ i = 88) then 0 else σ.I c i)) ∨ ((0 ≤ (if x1 = -1 then σ.I 0 40 else if 0 ≤ x1 ∧ x1 ≤ 3 then σ.I 48 x1 else -1) ∧ (0 ≤ x2 ∧ x2 < σ.I 0 9) ∧ (σ.I 16 x2 = 0 ∨ σ.I 16 x2 = 1)) ∧ alN (fun s => 0 ≤ nOf (σ.I 210) (σ.I 0 96) s) (σ.I 0 95) ∧ y = 0 ∧ ∃ ς, TY0 σ ς ∧ WNY ς τ K V (if x1 = -1 then σ.I 0 40 else if 0 ≤ x1 ∧ x1 ≤ 3 then σ.I 48 x1 else -1) ∧ bt32 (τ.I 136 1) x2) ∨ ((0 ≤ (if x1 = -1 then σ.I 0 40 else if 0 ≤ x1 ∧ x1 ≤ 3 then σ.I 48 x1 else -1) ∧ (0 ≤ x2 ∧ x2 < σ.I 0 9) ∧ (σ.I 16 x2 = 0 ∨ σ.I 16 x2 = 1)) ∧ alN (fun s => 0 ≤ nOf (σ.I 210) (σ.I 0 96) s) (σ.I 0 95) ∧ y = τ.I 0 88 ∧ TT2 σ τ K V (if x1 = -1 then σ.I 0 40 else if 0 ≤ x1 ∧ x1 ≤ 3 then σ.I 48 x1 else -1) x2 (if 0 ≠ 0 then min (σ.I 0 1) 20 else σ.I 0 1) 0 (τ.I 0 88))) ∧ (PBD τ 155))) := by sorry
theorem sp_X0_spell {E : XE} {d : Nat} {σ : Sto} {K : Int} {V : Int} {x1 : Int} {x2 : Int} (hd : 529 ≤ d) (hL : Lay σ)  (p0 : inR x1) (p1 : 0 ≤ σ.I 0 46 ∧ σ.I 0 46 < 4) (p2 : BSX σ K V) (p3 : 0 < σ.I 0 46 → σ.I (ubX σ) 1 ≠ 0 → QLX σ (ubX σ)) (p4 : PBD σ 155) (p5 : inR x2) (p6 : (1 ≤ σ.I 0 96 ∧ σ.I 0 96 ≤ 8) ∧ (1 ≤ σ.I 0 95 ∧ σ.I 0 95 ≤ 8)) (p7 : bd_0_1000000 σ 211 8) (p8 : inR (if x1 = -1 then σ.I 0 40 else if 0 ≤ x1 ∧ x1 ≤ 3 then σ.I 48 x1 else -1)) (p9 : 0 ≤ σ.I 0 1 ∧ σ.I 0 1 ≤ 30000) (p10 : TUB σ) (p11 : bd_0_36499 σ 201 11) : CC E mX0_spell d [aO 0, aI (x1), aI (x2)] σ (RVI (fun y τ => ((¬ (0 ≤ (if x1 = -1 then σ.I 0 40 else if 0 ≤ x1 ∧ x1 ≤ 3 then σ.I 48 x1 else -1) ∧ (0 ≤ x2 ∧ x2 < σ.I 0 9) ∧ (σ.I 16 x2 = 0 ∨ σ.I 16 x2 = 1)) ∧ y = -1 ∧ RD σ τ (fun c i => if c = 0 ∧ (i = 1 ∨ i = 88) then 0 else σ.I c i)) ∨ ((0 ≤ (if x1 = -1 then σ.I 0 40 else if 0 ≤ x1 ∧ x1 ≤ 3 then σ.I 48 x1 else -1) ∧ (0 ≤ x2 ∧ x2 < σ.I 0 9) ∧ (σ.I 16 x2 = 0 ∨ σ.I 16 x2 = 1)) ∧ ¬ alN (fun s => 0 ≤ nOf (σ.I 210) (σ.I 0 96) s) (σ.I 0 95) ∧ y = -4 ∧ RD σ τ (fun c i => if c = 0 ∧ (i = 1 ∨ i = 88) then 0 else σ.I c i)) ∨ ((0 ≤ (if x1 = -1 then σ.I 0 40 else if 0 ≤ x1 ∧ x1 ≤ 3 then σ.I 48 x1 else -1) ∧ (0 ≤ x2 ∧ x2 < σ.I 0 9) ∧ (σ.I 16 x2 = 0 ∨ σ.I 16 x2 = 1)) ∧ alN (fun s => 0 ≤ nOf (σ.I 210) (σ.I 0 96) s) (σ.I 0 95) ∧ y = 0 ∧ ∃ ς, TY0 σ ς ∧ WNY ς τ K V (if x1 = -1 then σ.I 0 40 else if 0 ≤ x1 ∧ x1 ≤ 3 then σ.I 48 x1 else -1) ∧ bt32 (τ.I 136 1) x2) ∨ ((0 ≤ (if x1 = -1 then σ.I 0 40 else if 0 ≤ x1 ∧ x1 ≤ 3 then σ.I 48 x1 else -1) ∧ (0 ≤ x2 ∧ x2 < σ.I 0 9) ∧ (σ.I 16 x2 = 0 ∨ σ.I 16 x2 = 1)) ∧ alN (fun s => 0 ≤ nOf (σ.I 210) (σ.I 0 96) s) (σ.I 0 95) ∧ y = τ.I 0 88 ∧ TT2 σ τ K V (if x1 = -1 then σ.I 0 40 else if 0 ≤ x1 ∧ x1 ≤ 3 then σ.I 48 x1 else -1) x2 (if 1 ≠ 0 then min (σ.I 0 1) 20 else σ.I 0 1) 1 (τ.I 0 88))) ∧ (PBD τ 155))) := by sorry
end
