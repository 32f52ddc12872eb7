/-! contracts: printed by tools/mk.py out of s98zzzzzf_opW.py -/
set_option maxRecDepth 100000
set_option maxHeartbeats 3000000
/-! the operation sweep -/
def PXF (ψ τ : Sto) : Prop := PKY ψ τ ∧ (∀ u, 0 ≤ u → u < ψ.I 0 20 → kpX ψ u → τ.I 27 (nX ψ u) = ψ.I 27 u) ∧ (∀ c i, 26 ≤ c → c ≤ 32 → nX ψ (ψ.I 0 20) ≤ i → τ.I c i = ψ.I c i) ∧ (∀ c i, 38 ≤ c → c ≤ 41 → sTX ψ (ψ.I 0 20) ≤ i → τ.I c i = ψ.I c i) ∧
    (∀ j, 0 ≤ j → j < ψ.I 0 39 → τ.I 42 j = nX ψ (ψ.I 42 j) ∧ τ.I 43 j = if ψ.I 47 j ≠ 0 then ψ.I 43 j else 0) ∧ (∀ c j, c = 42 ∨ c = 43 → ψ.I 0 39 ≤ j → τ.I c j = ψ.I c j) ∧ (∀ c i, ¬ wsLy c i → ¬ wsT3 c i → ¬ wsT4 c → τ.I c i = ψ.I c i) ∧ τ.2 = ψ.2 ∧ bd_0_20 τ 21 36500 ∧ bd_0_12 τ 20 36500 ∧ (XVF τ → rTE τ)
theorem PXF_l {ψ τ : Sto} (te : TEK ψ) (dr : 0 ≤ ψ.I 0 31 ∧ ψ.I 0 31 ≤ ψ.I 0 20) (hP : LAP ψ) (h : LAYR ψ τ) : PXF ψ τ := by
  obtain ⟨a, b, c, d, e, f, g, i, j, k, -, -⟩ := LAYR_all hP h
  exact ⟨a, b, c, d, e, f, g, i, j, k, fun x => TE_pk te dr hP h x⟩
theorem PXF_id {ψ : Sto} (te : rTE ψ) (va : rVA ψ) (fl : rFL ψ) (bd : rBD ψ) (lo : LOX ψ) (un : ∀ o, 0 ≤ o → o < ψ.I 0 39 → ψ.I 47 o = 0 → ψ.I 43 o = 0) : PXF ψ ψ := by
  obtain ⟨py, n⟩ := PKY_id va fl (fun v v0 => kp_all lo un v v0)
  refine ⟨py, fun u u0 u1 uk => by rw [n u u0], fun _ _ _ _ _ => rfl, fun _ _ _ _ _ => rfl, fun j j0 j1 => ⟨?_, ?_⟩, fun _ _ _ _ => rfl, fun _ _ _ _ _ => rfl, rfl, bd.2.2.2.2.1, bd.2.2.2.2.2, fun _ => te⟩
  · have b := (ofs_b lo j0).1
    rw [ofs_lt j1] at b
    exact (n _ b).symm
  · by_cases q : ψ.I 47 j ≠ 0
    · rw [if_pos q]
    · rw [if_neg q]; exact un j j0 j1 (by omega)
theorem kpE_of {κ : Sto} (ob : rOB κ) (va : rVA κ) (v : Int) (h1 : v < κ.I 0 20) : kpV κ v ↔ kpX κ v := by
  have o1 := ob.1
  have e := va.1.1
  constructor
  · rintro (⟨k, k0, k1, kh, a, b⟩ | a)
    · have z := ob.2.1 k k0 (by omega)
      have w := (z.2.2 (by omega)).1
      exact Or.inl ⟨k, k0, by omega, by omega, by omega, by omega⟩
    · exact Or.inr (by omega)
  · rintro (⟨k, k0, k1, kh, a, b⟩ | a)
    · have z := ob.2.1 k k0 k1
      have w := (z.2.2 (by omega)).1
      exact Or.inl ⟨k, k0, by omega, by omega, by omega, by omega⟩
    · exact Or.inr (by omega)
theorem cn_gr {p : Int → Prop} {a b : Int} (ha : 0 ≤ a) (hb : a ≤ b) : cn p b ≤ cn p a + (b - a) := by
  have z := cn_sum (p := p) ha (b - a).toNat
  rw [show a + (((b - a).toNat : Nat) : Int) = b by omega] at z
  have y := cn_in (fun j => p (a + j)) (((b - a).toNat : Nat) : Int)
  omega
/-- all of the relation that packing touches -/
theorem PACK {κ ψ ψm ρ τ : Sto} (va : rVA κ) (fl : rFL κ) (ob : rOB κ) (bd : rBD κ) (lo : LOX κ) (o27 : ∀ o, 0 ≤ o → o < κ.I 0 39 → ∀ j, 0 ≤ j → j < κ.I 43 o → κ.I 27 (κ.I 42 o + j) = o) (b27 : ∀ v, 0 ≤ v → v < 6000 → 0 ≤ κ.I 27 v ∧ κ.I 27 v < 600)
    (px : PXF ψ ρ) (pm : PKM ψm τ) (K1 : ∀ (c : Nat) (i : Int), c < 555 → κ.I c i = ψ.I c i) (K2 : ∀ (c : Nat) (i : Int), 555 ≤ c → κ.I c i = ψm.I c i) (G : ∀ (c : Nat) (i : Int), c < 555 → ¬ (c = 0 ∧ (i = 70 ∨ i = 71 ∨ i = 59 ∨ i = 75 ∨ i = 79 ∨ i = 40)) → τ.I c i = ρ.I c i) :
    (rVA τ ∧ rTE τ ∧ rOB τ ∧ rPK τ ∧ rBD τ) ∧ (∀ (c : Nat) (i : Int), c < 555 → ¬ wsLy c i → ¬ wsT3 c i → ¬ wsT4 c → ¬ (c = 0 ∧ (i = 70 ∨ i = 71 ∨ i = 59 ∨ i = 75 ∨ i = 79 ∨ i = 40)) → τ.I c i = κ.I c i) ∧ (∀ (c : Nat) (i : Int), 555 ≤ c → ¬ wsPm c i → ¬ (c = 555 ∧ (i = 30 ∨ i = 38 ∨ i = 44)) → τ.I c i = κ.I c i) ∧ τ.2 = ψm.2 := by
  have k1 : ∀ c : Nat, c < 555 → κ.I c = ψ.I c := fun c h => funext fun i => K1 c i h
  have k2 : ∀ c : Nat, 555 ≤ c → κ.I c = ψm.I c := fun c h => funext fun i => K2 c i h
  have bm : BOM ψm := by
    have z := BOM_V va fl bd
    have ln : lnT κ = lnT ψm := (ME_e (fun c a b => k2 c (by omega)) (fun i _ => K2 555 i (by omega))).2.2.2.2
    unfold BOM bd_0_20 at z ⊢
    rw [k2 555 (by omega), k2 582 (by omega), k2 580 (by omega), k2 581 (by omega), k2 587 (by omega), ln] at z
    exact z
  have lm : LOM ψm := by
    have z := LOM_V va ob lo
    unfold LOM at z ⊢
    rw [k2 555 (by omega), k2 594 (by omega), k2 595 (by omega), k2 596 (by omega)] at z
    exact z
  obtain ⟨m1, m2, m3, m4, m5, m6, m7, m8⟩ := PKM_all bm lm pm
  obtain ⟨x1, x2, x3, x4, x5, x6, x7, x8, x9, x10, x11⟩ := px
  obtain ⟨-, eN, -, eT, -, -⟩ := XE_e k1
  obtain ⟨-, eM, -, eTM, -⟩ := ME_e (κ' := κ) (κ := ψm) (fun c a b => k2 c (by omega)) (fun i _ => K2 555 i (by omega))
  have py : PKY κ τ := PKY_cg k1 G x1
  have pmy : PMY κ τ := PMY_cg (fun c a b => k2 c (by omega)) (fun i _ => K2 555 i (by omega)) m1
  have kpE : ∀ v, 0 ≤ v → v < κ.I 0 20 → (kpV κ v ↔ kpX κ v) := fun v _ h => kpE_of ob va v h
  have dr := va.1.2.1
  have e1 := va.1.1
  have o1 := ob.1
  have kp : kpX κ = kpX ψ := (XE_e k1).1
  rw [← eM, ← k2 555 (by omega)] at m2
  rw [← eTM, ← k2 555 (by omega), ← k2 590 (by omega)] at m3
  rw [← eM, ← k2 555 (by omega), ← k2 594 (by omega), ← k2 595 (by omega)] at m5
  rw [← k2 555 (by omega), ← k2 594 (by omega), ← k2 595 (by omega)] at m6
  rw [← k2 584 (by omega)] at m2
  rw [← k1 0 (by omega), ← eN, ← kp, ← k1 27 (by omega)] at x2
  rw [← k1 0 (by omega), ← eN] at x3
  rw [← k1 0 (by omega), ← eT] at x4
  rw [← k1 0 (by omega), ← eN, ← k1 42 (by omega), ← k1 43 (by omega), ← k1 47 (by omega)] at x5
  rw [← k1 0 (by omega)] at x6
  have GT : ∀ c : Nat, 0 < c → c < 555 → τ.I c = ρ.I c := fun c a b => funext fun i => G c i b (by omega)
  have fx : ∀ (c : Nat) (i : Int), c < 555 → ¬ wsLy c i → ¬ wsT3 c i → ¬ wsT4 c → ¬ (c = 0 ∧ (i = 70 ∨ i = 71 ∨ i = 59 ∨ i = 75 ∨ i = 79 ∨ i = 40)) → τ.I c i = κ.I c i := fun c i a q0 q1 q2 q3 => by
    rw [G c i a q3, x7 c i q0 q1 q2, K1 c i a]
  have fm : ∀ (c : Nat) (i : Int), 555 ≤ c → ¬ wsPm c i → ¬ (c = 555 ∧ (i = 30 ∨ i = 38 ∨ i = 44)) → τ.I c i = κ.I c i := fun c i a q0 q1 => by
    rw [m7 c i q0 q1, K2 c i a]
  have X5 : ∀ j, 0 ≤ j → j < κ.I 0 39 → τ.I 42 j = nX κ (κ.I 42 j) ∧ τ.I 43 j = if κ.I 47 j ≠ 0 then κ.I 43 j else 0 := fun j a b => by
    rw [GT 42 (by omega) (by omega), GT 43 (by omega) (by omega)]
    exact x5 j a b
  have X6 : ∀ c j, c = 42 ∨ c = 43 → κ.I 0 39 ≤ j → τ.I c j = κ.I c j := fun c j a b => by
    rw [GT c (by omega) (by omega), k1 c (by omega)]
    exact x6 c j a b
  have vt : rVA τ := VA_pk va fl kpE py pmy (by
    have := cn_gr (p := kpX κ) dr.1 dr.2.1
    unfold nX
    omega)
  have xv : XVF ρ := by
    have z := XVF_of vt
    have w : isWv τ = isWv ρ := by funext v; unfold isWv; rw [GT 16 (by omega) (by omega), GT 26 (by omega) (by omega)]
    unfold XVF at z ⊢
    rw [w, GT 32 (by omega) (by omega), G 0 31 (by omega) (by omega), G 0 20 (by omega) (by omega), G 0 29 (by omega) (by omega), G 0 30 (by omega) (by omega)] at z
    exact z
  refine ⟨⟨vt, rTE_cg (fun c i h => G c i (by unfold fTE at h; omega) (by unfold fTE at h; omega)) (x11 xv), ?_, ?_, ?_⟩, fx, fm, m8⟩
  · refine OB_pk ob va fl kpE py lo X5 X6 (fun j a b c => m5 j a (by omega) c) (fun j q => m6 j (by omega)) (funext fun i => fm 596 i (by omega) (by unfold wsPm; omega) (by omega)) (fun c hc => funext fun i => ?_) ?_ (fm 555 52 (by omega) (by unfold wsPm; omega) (by omega)) ?_
    · by_cases q : c < 555
      · exact fx c i q (by unfold wsLy; omega) (by unfold wsT3; omega) (by unfold wsT4; omega) (by omega)
      · exact fm c i (by omega) (by unfold wsPm; omega) (by omega)
    · exact fx 0 39 (by omega) (by unfold wsLy; omega) (by unfold wsT3; omega) (by unfold wsT4; omega) (by omega)
    · exact fx 0 41 (by omega) (by unfold wsLy; omega) (by unfold wsT3; omega) (by unfold wsT4; omega) (by omega)
  · refine PK_pk lo o27 b27 dr.2.2.1 py.2.1.1 py.2.2.1 ?_ (funext fun i => fx 47 i (by omega) (by unfold wsLy; omega) (by unfold wsT3; omega) (by unfold wsT4; omega) (by omega)) X5 (fun u u0 u1 uk => ?_) (fun i q => ?_)
    · exact fx 0 39 (by omega) (by unfold wsLy; omega) (by unfold wsT3; omega) (by unfold wsT4; omega) (by omega)
    · rw [GT 27 (by omega) (by omega)]; exact x2 u u0 u1 uk
    · rw [GT 27 (by omega) (by omega), k1 27 (by omega)]; exact x3 27 i (by omega) (by omega) q
  · refine BD_pk bd va fl kpE py pmy (fun i q => ?_) (fun c i q0 q1 q2 => ?_) (fun i q => m2 i (by rw [← e1.1]; exact q)) (fun i q => m3 i (by rw [← e1.1]; exact q)) m4 (bd_0_20_eq x9 (GT 21 (by omega) (by omega))) (bd_0_12_eq x10 (GT 20 (by omega) (by omega)))
    · rw [GT 32 (by omega) (by omega), k1 32 (by omega)]; exact x3 32 i (by omega) (by omega) q
    · rw [GT c (by omega) (by omega), k1 c (by omega)]; exact x4 c i (by omega) q1 q2
theorem nd_up {σ : Sto} {k : Nat} (hk : k < 64) (r : RR k σ) {o : Int} (o0 : 0 ≤ o) (o1 : o < σ.I 0 39) (oh : σ.I 47 o = 1) (op : 0 ≤ σ.I 44 o) (h : ndS σ o) : ndS σ (σ.I 44 o) := by
  have w := ((r.OB.2.1 o o0 o1).2.2 oh)
  have p := w.2.2.2 op
  have tr := r.OB.2.2.1 o o0 o1
  have v := ((r.OB.2.1 (σ.I 44 o) op (by omega)).2.2 p.1).2.2.1
  have k4 := r.RK.2.2.2.1
  have up : ∀ x, inV (σ.I 47) (σ.I 45) (σ.I 46) x o → inV (σ.I 47) (σ.I 45) (σ.I 46) x (σ.I 44 o) := fun x q => ⟨p.1, by have := q.2.1; omega, by have := q.2.2; omega⟩
  rcases h with q | q | q | ⟨j, a, b, c, e⟩
  · exact Or.inl (by omega)
  · exact Or.inr (Or.inl (up _ q))
  · exact Or.inr (Or.inr (Or.inl (up _ q)))
  · exact Or.inr (Or.inr (Or.inr ⟨j, a, b, c, up _ e⟩))
theorem nd_eq {σ τ : Sto} {k : Nat} (r : RR k σ) (S : ∀ (c : Nat) (i : Int), 555 ≤ c → τ.I c i = σ.I c i) {o : Int} (o0 : 0 ≤ o) (o1 : o < σ.I 0 39) : drM τ o ↔ drX σ o := by
  have z := r.OB.2.1 o o0 o1
  have vs := r.VS
  unfold drM drX ndT ndS
  rw [S 594 o (by omega), ← z.1]
  refine and_congr_right fun q => not_congr ?_
  have w := (z.2.2 (by omega)).1
  have iv : ∀ x, inV (τ.I 594) (τ.I 592) (τ.I 593) x o ↔ inV (σ.I 47) (σ.I 45) (σ.I 46) x o := fun x => by
    unfold inV
    rw [S 594 o (by omega), S 592 o (by omega), S 593 o (by omega), ← z.1, ← w.2.1, ← w.2.2.1]
  unfold ndd
  rw [S 593 o (by omega), ← w.2.2.1, S 555 53 (by omega), S 555 55 (by omega), ← vs.1.1, ← vs.1.2.2, iv, iv]
  refine or_congr_right (or_congr_right (or_congr_right (exists_congr fun j => and_congr_right fun j0 => and_congr_right fun j1 => ?_)))
  show (0 ≤ τ.I 597 j ∧ inV (τ.I 594) (τ.I 592) (τ.I 593) (τ.I 597 j) o) ↔ (0 ≤ σ.I 48 j ∧ inV (σ.I 47) (σ.I 45) (σ.I 46) (σ.I 48 j) o)
  rw [S 597 j (by omega), ← (vs.2.2 j j0 j1).1, iv]
theorem SWR_f {σ τ : Sto} {k : Nat} (r : RR k σ) (h : SWR σ τ) : ∃ ψ ρ, SWQ σ ψ (σ.I 0 39) ∧ PXF ψ ρ ∧ RD ρ τ (fun c i => if fgX c i then 0 else ρ.I c i) := by
  obtain ⟨ψ, sq, h⟩ := h
  have e : ∀ (c : Nat) (i : Int), c ≠ 47 → ψ.I c i = σ.I c i := sq.1
  have va : rVA ψ := rVA_cg (fun c i h => e c i (by unfold fVA at h; omega)) r.VA
  have fl : rFL ψ := rFL_cg (fun c i h => e c i (by unfold fFL at h; omega)) r.FL
  have te : rTE ψ := rTE_cg (fun c i h => e c i (by unfold fTE at h; omega)) r.TE
  have bd : rBD ψ := rBD_cg (fun c i h => e c i (by unfold fBD at h; omega)) r.BD
  have f : ∀ c : Nat, c ≠ 47 → ψ.I c = σ.I c := fun c q => funext fun i => e c i q
  have lo : LOX ψ := by
    have z := r.PK.1
    unfold LOX ofsX at z ⊢
    rw [f 0 (by omega), f 42 (by omega), f 43 (by omega)]
    exact z
  have b27 : ∀ v, 0 ≤ v → v < 6000 → 0 ≤ ψ.I 27 v ∧ ψ.I 27 v < 600 := fun v a b => by rw [e 27 v (by omega)]; exact r.PK.2.2 v a b
  rcases h with ⟨c0, rd⟩ | ⟨c0, ρ, ly, rd⟩
  · refine ⟨ψ, ψ, sq, PXF_id te va fl bd lo (fun o o0 o1 q => ?_), rd⟩
    rw [f 0 (by omega)] at o1
    have nd : ¬ drX σ o := fun z => by
      have := cn_pos o0 z (σ.I 0 39).toNat (by omega)
      rw [Int.toNat_of_nonneg (by omega)] at this
      omega
    rw [sq.2.2.2 o (fun z => nd z.2)] at q
    rw [e 43 o (by omega)]
    exact (r.PK.2.1 o o0 o1).1 q
  · exact ⟨ψ, ρ, sq, PXF_l (TEK_of te) ⟨va.1.2.1.1, va.1.2.1.2.1⟩ (LAP_T va fl te bd lo b27) ly, rd⟩
theorem PKM_f {ψ τ : Sto} (h : PKM ψ τ) (c : Nat) (i : Int) (q : ¬ wsPm c i) (q2 : ¬ (c = 555 ∧ (i = 30 ∨ i = 38 ∨ i = 44))) : τ.I c i = ψ.I c i := by
  obtain ⟨φ, A, B, T, -, ⟨p1, -⟩, e⟩ := h
  unfold wsPm at q
  rw [e, I_wI, I_wI, I_wI, I_wI, if_neg (by omega), if_neg (by omega), if_neg (by omega), if_neg (by omega)]
  exact p1 c i (by unfold wsPm; omega)
section OPW
variable {E : XE} {d : Nat}

theorem op_sweep (hd : 30 ≤ d) : OP_sweep E d RR := by
  intro k σ hk r
  have va := r.VA
  have fl := r.FL
  have ob := r.OB
  have ob1 := ob.1
  have pk := r.PK
  refine OPI.mk (sp_X0_sweep (by omega) r.Lay (LAP_T va fl r.TE r.BD pk.1 pk.2.2)) (fun y σ1 p s1 => by
      obtain ⟨ψ, ρ, sq, px, rd⟩ := SWR_f r p.2
      have S : ∀ (c : Nat) (i : Int), 555 ≤ c → σ1.I c i = σ.I c i := by
        intro c i h
        rw [rd.2]
        show (if fgX c i then _ else ρ.I c i) = _
        rw [if_neg (by unfold fgX; omega), px.2.2.2.2.2.2.1 c i (by unfold wsLy; omega) (by unfold wsT3; omega) (by unfold wsT4; omega)]
        exact sq.1 c i (by omega)
      have S' : ∀ c : Nat, 555 ≤ c → σ1.I c = σ.I c := fun c h => funext fun i => S c i h
      have bm : BOM σ1 := by
        have z := BOM_V va fl r.BD
        have ln : lnT σ1 = lnT σ := by funext v; unfold lnT; rw [S' 582 (by omega)]
        unfold BOM bd_0_20 at z ⊢
        rw [S' 555 (by omega), S' 582 (by omega), S' 580 (by omega), S' 581 (by omega), S' 587 (by omega), ln]
        exact z
      have lm : LOM σ1 := by
        have z := LOM_V va ob pk.1
        unfold LOM at z ⊢
        rw [S' 555 (by omega), S' 594 (by omega), S' 595 (by omega), S' 596 (by omega)]
        exact z
      exact sp_X9_sweep (by omega) (r.Lay.sf s1) bm lm) ?_
  intro y σ1 z σ2 p s1 g s2
  obtain ⟨ψ, ρ, sq, px, rd⟩ := SWR_f r p.2
  have S : ∀ (c : Nat) (i : Int), 555 ≤ c → σ1.I c i = σ.I c i := by
    intro c i h
    rw [rd.2]
    show (if fgX c i then _ else ρ.I c i) = _
    rw [if_neg (by unfold fgX; omega), px.2.2.2.2.2.2.1 c i (by unfold wsLy; omega) (by unfold wsT3; omega) (by unfold wsT4; omega)]
    exact sq.1 c i (by omega)
  obtain ⟨gy, ψm, sm, pm⟩ := g
  rw [S 555 52 (by omega), ← ob1.1] at gy sm
  have hy : z = y := by
    rw [gy, p.1]
    exact cn_cg (fun o o0 o1 => nd_eq r S o0 o1)
  obtain ⟨κ, hκ⟩ : ∃ κ : Sto, κ = (fun c i => if c < 555 then ψ.I c i else ψm.I c i, σ.2) := ⟨_, rfl⟩
  have K1 : ∀ (c : Nat) (i : Int), c < 555 → κ.I c i = ψ.I c i := fun c i h => by rw [hκ]; exact if_pos h
  have K2 : ∀ (c : Nat) (i : Int), 555 ≤ c → κ.I c i = ψm.I c i := fun c i h => by rw [hκ]; exact if_neg (by omega)
  have K3 : ∀ (c : Nat) (i : Int), c ≠ 47 → c ≠ 594 → ¬ (c = 555 ∧ (i = 114 ∨ i = 115 ∨ i = 133 ∨ i = 134 ∨ i = 135)) → κ.I c i = σ.I c i := fun c i a b e => by
    by_cases q : c < 555
    · rw [K1 c i q]; exact sq.1 c i a
    · rw [K2 c i (by omega), sm.1 c i b, if_neg (by unfold fgM; omega), S c i (by omega)]
  have kva : rVA κ := rVA_cg (fun c i h => K3 c i (by unfold fVA at h; omega) (by unfold fVA at h; omega) (by unfold fVA at h; omega)) va
  have kfl : rFL κ := rFL_cg (fun c i h => K3 c i (by unfold fFL at h; omega) (by unfold fFL at h; omega) (by unfold fFL at h; omega)) fl
  have kbd : rBD κ := rBD_cg (fun c i h => K3 c i (by unfold fBD at h; omega) (by unfold fBD at h; omega) (by unfold fBD at h; omega)) r.BD
  have c39 := K3 0 39 (by omega) (by omega) (by omega)
  have klo : LOX κ := by
    have w := pk.1
    unfold LOX ofsX at w ⊢
    rw [c39, K3 0 31 (by omega) (by omega) (by omega), K3 0 20 (by omega) (by omega) (by omega), show κ.I 42 = σ.I 42 from funext fun i => K3 42 i (by omega) (by omega) (by omega), show κ.I 43 = σ.I 43 from funext fun i => K3 43 i (by omega) (by omega) (by omega)]
    exact w
  have kob : rOB κ := by
    refine ⟨by rw [c39, K3 555 52 (by omega) (by omega) (by omega)]; exact ob1, fun o o0 o1 => ?_, fun j j0 j1 => ?_, fun o o0 o1 => ?_, fun o o0 o1 => ?_, fun o o0 o1 => ?_⟩
    · rw [c39] at o1
      have w := ob.2.1 o o0 o1
      have de := nd_eq r S o0 o1
      by_cases q : drX σ o
      · rw [K1 47 o (by omega), K2 594 o (by omega), sq.2.2.1 o ⟨o0, o1⟩ q, sm.2.2.1 o ⟨o0, o1⟩ (de.mpr q)]
        exact ⟨rfl, Or.inl rfl, fun e => by omega⟩
      · have e47 : κ.I 47 o = σ.I 47 o := by rw [K1 47 o (by omega)]; exact sq.2.2.2 o (fun e => q e.2)
        have e594 : κ.I 594 o = σ.I 594 o := by rw [K2 594 o (by omega), sm.2.2.2 o (fun e => q (de.mp e.2)), S 594 o (by omega)]
        rw [e47, e594]
        refine ⟨w.1, w.2.1, fun h => ?_⟩
        have u := w.2.2 h
        have nd : ndS σ o := Classical.byContradiction fun e => q ⟨by omega, e⟩
        unfold hOb at u ⊢
        have K : ∀ (c : Nat) (i : Int), c ≠ 0 → c ≠ 47 → c ≠ 594 → c ≠ 555 → κ.I c i = σ.I c i := fun c i _ b c' e => K3 c i b c' (by omega)
        rw [K 44 o (by omega) (by omega) (by omega) (by omega), K 591 o (by omega) (by omega) (by omega) (by omega), K 45 o (by omega) (by omega) (by omega) (by omega), K 592 o (by omega) (by omega) (by omega) (by omega), K 46 o (by omega) (by omega) (by omega) (by omega), K 593 o (by omega) (by omega) (by omega) (by omega), K 42 o (by omega) (by omega) (by omega) (by omega), K 595 o (by omega) (by omega) (by omega) (by omega), K 43 o (by omega) (by omega) (by omega) (by omega), K 596 o (by omega) (by omega) (by omega) (by omega), K3 0 41 (by omega) (by omega) (by omega), K 45 _ (by omega) (by omega) (by omega) (by omega), K 46 _ (by omega) (by omega) (by omega) (by omega)]
        refine ⟨u.1, u.2.1, u.2.2.1, fun a => ⟨?_, (u.2.2.2 a).2⟩⟩
        have tr := ob.2.2.1 o o0 o1
        have up := nd_up hk r o0 o1 h a nd
        rw [K1 47 _ (by omega), sq.2.2.2 _ (fun e => e.2.2 up)]
        exact (u.2.2.2 a).1
    · rw [c39] at j1
      rw [K3 44 j (by omega) (by omega) (by omega)]
      exact ob.2.2.1 j j0 j1
    · rw [K3 42 o (by omega) (by omega) (by omega), K3 43 o (by omega) (by omega) (by omega)]
      exact ob.2.2.2.1 o o0 o1
    · rw [K3 595 o (by omega) (by omega) (by omega), K3 596 o (by omega) (by omega) (by omega)]
      exact ob.2.2.2.2.1 o o0 o1
    · rw [K3 591 o (by omega) (by omega) (by omega)]
      exact ob.2.2.2.2.2 o o0 o1
  have ko27 : ∀ o, 0 ≤ o → o < κ.I 0 39 → ∀ j, 0 ≤ j → j < κ.I 43 o → κ.I 27 (κ.I 42 o + j) = o := fun o o0 o1 j j0 j1 => by
    rw [c39] at o1
    rw [K3 43 o (by omega) (by omega) (by omega)] at j1
    rw [K3 42 o (by omega) (by omega) (by omega), K3 27 _ (by omega) (by omega) (by omega)]
    exact (pk.2.1 o o0 o1).2 j j0 j1
  have kb27 : ∀ v, 0 ≤ v → v < 6000 → 0 ≤ κ.I 27 v ∧ κ.I 27 v < 600 := fun v v0 v1 => by
    rw [K3 27 v (by omega) (by omega) (by omega)]
    exact pk.2.2 v v0 v1
  have PMF := PKM_f pm
  have H2 : ∀ (c : Nat) (i : Int), c < 555 → σ2.I c i = σ1.I c i := fun c i h => by
    rw [PMF c i (by unfold wsPm; omega) (by omega), sm.1 c i (by omega), if_neg (by unfold fgM; omega)]
  have G : ∀ (c : Nat) (i : Int), c < 555 → ¬ (c = 0 ∧ (i = 70 ∨ i = 71 ∨ i = 59 ∨ i = 75 ∨ i = 79 ∨ i = 40)) → σ2.I c i = ρ.I c i := fun c i h q => by
    rw [H2 c i h, rd.2]
    exact if_neg (by unfold fgX; omega)
  obtain ⟨⟨nva, nte, nob, npk, nbd⟩, fx, fm, n2⟩ := PACK kva kfl kob kbd klo ko27 kb27 px pm K1 K2 G
  have s12 : σ1.2 = σ.2 := by
    have a : σ1.2 = ρ.2 := Prod.ext rd.1.1 (Prod.ext rd.1.2.1 rd.1.2.2)
    rw [a, px.2.2.2.2.2.2.2.1]
    exact sq.2.1
  have s22 : σ2.2 = σ.2 := by rw [n2, sm.2.1]; exact s12
  have G1 : ∀ i, (i = 70 ∨ i = 71 ∨ i = 59 ∨ i = 75 ∨ i = 79) → σ2.I 0 i = 0 := fun i q => by
    rw [H2 0 i (by omega), rd.2]
    exact if_pos (by unfold fgX; omega)
  have G2 : ∀ i, (i = 114 ∨ i = 115 ∨ i = 133 ∨ i = 134 ∨ i = 135) → σ2.I 555 i = 0 := fun i q => by
    rw [PMF 555 i (by unfold wsPm; omega) (by omega), sm.1 555 i (by omega)]
    exact if_pos (by unfold fgM; omega)
  have FF : ∀ (c : Nat) (i : Int), ¬ (c < 555 ∧ ((19 ≤ c ∧ c ≤ 43) ∨ c = 47 ∨ c = 49 ∨ (c = 18 ∧ i = 7) ∨ (c = 0 ∧ (i = 20 ∨ i = 22 ∨ i = 29 ∨ i = 30 ∨ i = 31 ∨ i = 32 ∨ i = 40 ∨ i = 70 ∨ i = 71 ∨ i = 59 ∨ i = 75 ∨ i = 79)))) → ¬ (555 ≤ c ∧ ((579 ≤ c ∧ c ≤ 590) ∨ c = 594 ∨ c = 595 ∨ (c = 555 ∧ (i = 45 ∨ i = 30 ∨ i = 38 ∨ i = 44 ∨ i = 114 ∨ i = 115 ∨ i = 133 ∨ i = 134 ∨ i = 135)))) → σ2.I c i = σ.I c i := fun c i a b => by
    by_cases q : c < 555
    · rw [fx c i q (by unfold wsLy; omega) (by unfold wsT3; omega) (by unfold wsT4; omega) (by omega)]
      exact K3 c i (by omega) (by omega) (by omega)
    · rw [fm c i (by omega) (by unfold wsPm; omega) (by omega)]
      exact K3 c i (by omega) (by omega) (by omega)
  have E40 : σ2.I 0 40 = σ.I 0 40 := by
    rw [H2 0 40 (by omega), rd.2]
    show (if fgX 0 40 then _ else ρ.I 0 40) = _
    rw [if_neg (by unfold fgX; omega), px.2.2.2.2.2.2.1 0 40 (by unfold wsLy; omega) (by unfold wsT3; omega) (by unfold wsT4; omega)]
    exact sq.1 0 40 (by omega)
  have F' : ∀ (c : Nat) (i : Int), ¬ (c < 555 ∧ ((19 ≤ c ∧ c ≤ 43) ∨ c = 47 ∨ c = 49 ∨ (c = 18 ∧ i = 7) ∨ (c = 0 ∧ (i = 20 ∨ i = 22 ∨ i = 29 ∨ i = 30 ∨ i = 31 ∨ i = 32 ∨ i = 70 ∨ i = 71 ∨ i = 59 ∨ i = 75 ∨ i = 79)))) → ¬ (555 ≤ c ∧ ((579 ≤ c ∧ c ≤ 590) ∨ c = 594 ∨ c = 595 ∨ (c = 555 ∧ (i = 45 ∨ i = 30 ∨ i = 38 ∨ i = 44 ∨ i = 114 ∨ i = 115 ∨ i = 133 ∨ i = 134 ∨ i = 135)))) → σ2.I c i = σ.I c i := fun c i a b => by
    by_cases q : c = 0 ∧ i = 40
    · rw [q.1, q.2]; exact E40
    · exact FF c i (by omega) b
  have F := F'
  have hR : σ2.R = σ.R := congrArg Prod.fst s22
  have hS : σ2.sh = σ.sh := congrArg (fun x => x.2.1) s22
  have hN : σ2.n = σ.n := congrArg (fun x => x.2.2) s22
  have G70 := G1 70 (by omega)
  have G71 := G1 71 (by omega)
  have G59 := G1 59 (by omega)
  have G75 := G1 75 (by omega)
  have G79 := G1 79 (by omega)
  have G114 := G2 114 (by omega)
  have G115 := G2 115 (by omega)
  have G133 := G2 133 (by omega)
  have G134 := G2 134 (by omega)
  have G135 := G2 135 (by omega)
  refine ⟨hy, r.Lay.sf (s1.tr s2), RK_cg hS hN (F 0 1 (by omega) (by omega)) (F 0 41 (by omega) (by omega)) (fun i => F 211 i (by omega) (by omega)) r.RK, ?_, ?_, ?_, ?_, ?_, ?_, ?_, ?_, ?_, ?_, ?_, ?_, ?_, ?_, ?_, ?_, ?_, ?_, ?_, ?_, ?_, ?_, ?_, ?_, ?_⟩
  · exact rTP_cg (fun c i h => F c i (by unfold fTP at h; omega) (by unfold fTP at h; omega)) r.TP
  · exact rFL_cg (fun c i h => F c i (by unfold fFL at h; omega) (by unfold fFL at h; omega)) r.FL
  · exact rVS_cg (fun c i h => F c i (by unfold fVS at h; omega) (by unfold fVS at h; omega)) r.VS
  · exact nob
  · exact nva
  · exact nbd
  · exact nte
  · exact npk
  · exact rUS_cg (fun c i h => F c i (by unfold fUS at h; omega) (by unfold fUS at h; omega)) r.US
  · exact rFO_cg (fun c i h => F c i (by unfold fFO at h; omega) (by unfold fFO at h; omega)) r.FO
  · exact rSH_cg (fun c i h => F c i (by unfold fSH at h; omega) (by unfold fSH at h; omega)) r.SH
  · exact rSW_cg (fun c i h => F c i (by unfold fSW at h; omega) (by unfold fSW at h; omega)) r.SW
  · exact HI_0 r G70 G71 G114 G115 (fun i => F 637 i (by omega) (by omega))
  · exact LN_0 G59 G133
  · exact MK_0 G75 G134
  · exact GRz_0 G79 G135
  · exact rTT_cg (fun c i h => F c i (by unfold fTT at h; omega) (by unfold fTT at h; omega)) r.TT
  · exact rMT_cg (fun c i h => F c i (by unfold fMT at h; omega) (by unfold fMT at h; omega)) r.MT
  · exact rSC_cg (fun c i h => F c i (by unfold fSC at h; omega) (by unfold fSC at h; omega)) r.SC
  · exact rQU_cg (fun c i h => F c i (by unfold fQU at h; omega) (by unfold fQU at h; omega)) r.QU
  · exact rKQ_cg (fun c i h => F c i (by unfold fKQ at h; omega) (by unfold fKQ at h; omega)) r.KQ
  · exact rHQ_cg (fun c i h => F c i (by unfold fHQ at h; omega) (by unfold fHQ at h; omega)) r.HQ
  · exact rPP_cg (fun c i h => F c i (by unfold fPP at h; omega) (by unfold fPP at h; omega)) (by rw [hR]) (by rw [hR]) r.PP
  · exact rAN_cg (fun c i h => F c i (by unfold fAN at h; omega) (by unfold fAN at h; omega)) hR hS hN r.AN
  · exact rSE_cg r.SE
end OPW

