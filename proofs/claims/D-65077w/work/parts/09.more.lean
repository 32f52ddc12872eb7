/-! ROWS of VV: making, references, switches, compares, copies -/
def Sto.al (σ : Sto) (t z : Nat) : Sto := (fun a i => if a = σ.n then 0 else σ.I a i, fun a i => if a = σ.n then none else σ.R a i, fun a => if a = σ.n then (t, z) else σ.sh a, σ.n + 1)
theorem inT_0 (ty : FieldType) : inT ty 0 := by
  unfold inT inL inR
  split <;> omega
theorem ssum_al {σ : Sto} {t z : Nat} : ssum (σ.al t z) = ssum σ + z := by
  show ((List.range (σ.n + 1)).map fun a => (if a = σ.n then (t, z) else σ.sh a).2).sum = _
  rw [List.range_succ, List.map_append, List.sum_append]
  have e1 : ((List.range σ.n).map fun a => (if a = σ.n then (t, z) else σ.sh a).2) = (List.range σ.n).map fun a => (σ.sh a).2 := by
    refine List.map_congr_left fun a ha => ?_
    rw [if_neg (by have := List.mem_range.mp ha; omega)]
  rw [e1]
  simp [ssum]
theorem TI.al {σ : Sto} (h : TI σ) {t z : Nat} (ht : t < 8 ∨ 99 ≤ t) (hz : z < 2147483648) (hc : σ.n + 1 ≤ NC) (hs : ssum σ + z ≤ NS) : TI (σ.al t z) := by
  refine ⟨fun a i => ?_, fun a ha => ?_, fun a => ?_, fun a => ?_, hc, by rw [ssum_al]; exact hs⟩
  · by_cases q : a = σ.n
    · show inT _ (if a = σ.n then 0 else _)
      rw [if_pos q]; exact inT_0 _
    · show inT (zty (if a = σ.n then (t, z) else σ.sh a) i) (if a = σ.n then 0 else _)
      rw [if_neg q, if_neg q]; exact h.1 a i
  · have h1 : σ.n + 1 ≤ a := ha
    show (if a = σ.n then (t, z) else σ.sh a) = _ ∧ _
    rw [if_neg (by omega)]
    refine ⟨(h.2.1 a (by omega)).1, fun k => ?_⟩
    show (if a = σ.n then none else σ.R a k) = none
    rw [if_neg (by omega)]; exact (h.2.1 a (by omega)).2 k
  · show (if a = σ.n then (t, z) else σ.sh a).2 < _
    by_cases q : a = σ.n
    · rw [if_pos q]; exact hz
    · rw [if_neg q]; exact h.2.2.1 a
  · show (if a = σ.n then (t, z) else σ.sh a).1 < 8 ∨ 99 ≤ (if a = σ.n then (t, z) else σ.sh a).1
    by_cases q : a = σ.n
    · rw [if_pos q]; exact ht
    · rw [if_neg q]; exact h.2.2.2.1 a
theorem Nx.al {n0 s0 : Nat} {σ0 σ : Sto} {t z : Nat} (h : Nx n0 s0 σ0 σ) (hT : TI σ) : Nx n0 s0 σ0 (σ.al t z) := by
  have h1 := h.1
  have h2 := h.2.1
  refine ⟨by show n0 ≤ σ.n + 1; omega, by rw [ssum_al]; omega, fun a k b hd hb => ?_, fun a u w ha hu => ?_, by have := h.2.2.2.2; show _ ≤ σ.n + 1; omega⟩
  · have h3 := h.2.2.1 a k b hd hb
    show (if a = σ.n then none else σ.R a k) = some b
    rw [if_neg (fun q => by have := (hT.2.1 a (by omega)).2 k; rw [h3] at this; cases this)]
    exact h3
  · have h3 := h.2.2.2.1 a u w ha hu
    show (if a = σ.n then (t, z) else σ.sh a) = _
    rw [if_neg (fun q => hu (by have := (hT.2.1 a (by omega)).1; rw [h3] at this; exact congrArg Prod.fst this))]
    exact h3
theorem al_ws {E : XE} {σ : Sto} {t z : Nat} : zws E (σ.al t z) = zws E σ ++ [(E.bs + σ.n, zct E (σ.al t z) σ.n)] := by
  show (List.range (σ.n + 1)).map _ = _
  rw [List.range_succ, List.map_append]
  congr 1
  refine List.map_congr_left fun a ha => ?_
  have hne : a ≠ σ.n := by have := List.mem_range.mp ha; omega
  rw [zct_sh (σ := σ) (σ' := σ.al t z) (show (if a = σ.n then _ else _) = _ from if_neg hne) (fun i => if_neg hne) (fun i => if_neg hne)]
theorem Rel.al {E : XE} {σ : Sto} {H H1 : Heap} {t z : Nat} (hR : Rel E σ H) (hT : TI (σ.al t z)) (hz : H1.size = H.size + 1) (ho : ∀ q : Nat, q < H.size → H1[q]? = H[q]?) (he : va_at E.D clV (E.bs + σ.n, zct E (σ.al t z) σ.n) H1) : Rel E (σ.al t z) H1 := by
  refine ⟨by rw [hz, hR.1]; rfl, fun q hq => ?_, ?_, hT⟩
  · rw [ho q (by rw [hR.1]; omega)]; exact hR.2.1 q hq
  · rw [al_ws]
    refine va_P.app (fun k q hk => ?_) (fun k q hk => ?_)
    · have h1 := hR.2.2.1 k q hk
      exact h1.kept (ho q.1 h1.lt)
    · cases k with
      | zero => cases hk; exact he
      | succ k => cases k <;> cases hk
section VMORE
variable {E : XE} {M : MI} {d pc pc' : Nat} {L L' : List (Nat × AV)} {st : List AV} {σ : Sto} {Q : Res → Sto → Prop}
theorem v_new {ci index : Nat} {q : QC} {z : Nat} (hd : DD M.cc pc 3 pc' (.new index)) (hq : clT[ci]? = some q) (hcl : Cond.classLink M.y.cls index q.1.1 ∈ lw_all) (hins : Cond.instantiable q.1.1 z ∈ lw_all) (hini : Cond.initialized q.1.1 ∈ lw_all) (hk1 : σ.n + 1 ≤ NC) (hn1 : ssum σ + z ≤ NS) (h : VV E M d pc' L (aO σ.n :: st) (σ.al (100 + ci) z) Q) : VV E M d pc L st σ Q := by
  obtain ⟨hd, rfl⟩ := hd
  intro p l e R s m args below meth c n0 s0 σ0 hC H locs hR hlo hN ls hl
  have hw := hC.wd
  have ok := cl_ok hq
  have hKn := hC.kk.1 ci _ (cl_V hq)
  refine W.newcK hC.ex hC.by hC.own (hw _ hcl args) (hw _ hins args) (hw _ hini args) rfl hd (by have := hC.nc; have := hN.1; omega) (by have := hC.nS; have := hN.2.1; omega) hKn.2.1 hR.1 fun H1 kC hkC e1 z1 o1 => ?_
  have hT : TI (σ.al (100 + ci) z) := hR.2.2.2.al (Or.inr (by omega)) (by have e9 : NS = 6917491 := rfl; omega) hk1 hn1
  have hn0 := hN.1
  have hs0 := hN.2.1
  have c1 : σ.n - n0 + 1 = (σ.al (100 + ci) z).n - n0 := by show _ = σ.n + 1 - n0; omega
  have c2 : ssum σ - s0 + z = ssum (σ.al (100 + ci) z) - s0 := by rw [ssum_al]; omega
  rw [c1, c2]
  refine h p l e R s m args below meth c n0 s0 σ0 hC H1 locs (hR.al hT (by rw [z1, hR.1]) (fun x hx => o1 x (by rw [← hR.1]; exact hx)) ?_) hlo (hN.al hR.2.2.2) ls hl
  have hs : (σ.al (100 + ci) z).sh σ.n = (100 + ci, z) := if_pos rfl
  rw [zct_o hs]
  refine ⟨_, cl_V hq, t_OB.to (u_born q.2 (fun w h => hw w h args) ok.1 hKn hkC e1 ok.2.1) (fun kf hkf => ?_)⟩
  show defaultValue (q.2 kf) = (zfs E (σ.al (100 + ci) z) σ.n ci).getD kf .null
  rw [List.getD_eq_getElem?_getD, zfs_get hq hkf]
  show defaultValue (q.2 kf) = zfv E (q.2 kf) (if σ.n = σ.n then 0 else _) (if σ.n = σ.n then none else _)
  rw [if_pos rfl, if_pos rfl]
  have h4 := clT_fd q (List.mem_of_getElem? hq) kf hkf
  revert h4
  cases q.2 kf <;> intro h4 <;> first | rfl | exact absurd rfl h4.1 | exact absurd rfl h4.2
theorem v_newa {t z : Nat} {x : Int} {atype : ArrayType} (hd : DD M.cc pc 2 pc' (.newarray atype)) (hat : newarray.typeOf atype = aty t) (ht : t < 5) (hw : Cond.arrayClass (aty t) ∈ lw_all) (hx : x = z) (hz : z < 1000000) (hk1 : σ.n + 1 ≤ NC) (hn1 : ssum σ + z ≤ NS) (h : VV E M d pc' L (aO σ.n :: st) (σ.al t z) Q) : VV E M d pc L (aI x :: st) σ Q := by
  obtain ⟨hd, rfl⟩ := hd
  subst hx
  intro p l e R s m args below meth c n0 s0 σ0 hC H locs hR hlo hN ls hl
  have h0 : ¬ Int32.ofInt (z : Int) < 0 := by rw [i32_0, i32_lt ⟨by omega, by omega⟩ inR_0]; omega
  have hcb : componentBytes (aty t) ≤ 8 := by
    have : t = 0 ∨ t = 1 ∨ t = 2 ∨ t = 3 ∨ t = 4 := by omega
    rcases this with rfl | rfl | rfl | rfl | rfl <;> decide
  show W _ _ _ _ _ _ _ _ _ _ _ _ _ _ _ (F0 m pc ls (.int (Int32.ofInt z) :: st.map (cv E)))
  refine va_newaK hC.ex hC.by (by rw [hat]; exact hC.wd _ hw args) rfl hd rfl h0 (N := z) (by rw [i32_cl (by omega) (by omega)]; rfl) (by rw [hat]; exact Nat.le_trans (Nat.mul_le_mul_left z hcb) (by omega)) (by have := hC.nc; have := hN.1; omega) (by have := hC.nS; have := hN.2.1; omega) hR.1 (fun H1 cA e1 z1 o1 hA hNm => ?_)
  have hT : TI (σ.al t z) := hR.2.2.2.al (Or.inl (by omega)) (by omega) hk1 hn1
  have hcA : cA = E.tc t := by
    have h2 := (hC.kk.2 t _ (zTy E (by omega))).2
    rw [hat] at hNm
    have : t = 0 ∨ t = 1 ∨ t = 2 ∨ t = 3 ∨ t = 4 := by omega
    rcases this with rfl | rfl | rfl | rfl | rfl <;> exact Option.some.inj (hNm.symm.trans h2)
  have hn0 := hN.1
  have hs0 := hN.2.1
  have c1 : σ.n - n0 + 1 = (σ.al t z).n - n0 := by show _ = σ.n + 1 - n0; omega
  have c2 : ssum σ - s0 + z = ssum (σ.al t z) - s0 := by rw [ssum_al]; omega
  rw [c1, c2]
  refine h p l e R s m args below meth c n0 s0 σ0 hC H1 locs (hR.al hT (by rw [z1, hR.1]) (fun x hx => o1 x (by rw [← hR.1]; exact hx)) ?_) hlo (hN.al hR.2.2.2) ls hl
  have hs : (σ.al t z).sh σ.n = (t, z) := if_pos rfl
  subst hcA
  rw [hat] at e1
  by_cases h4 : t < 4
  · rw [zct_i hs h4]
    show H1[E.bs + σ.n]? = some (vp_cell _ _)
    rw [vp_cell_i, e1]
    congr 2
    funext j
    show defaultValue (aty t) = .int (Int32.ofInt (if σ.n = σ.n then 0 else _))
    rw [if_pos rfl]
    have : t = 0 ∨ t = 1 ∨ t = 2 ∨ t = 3 := by omega
    rcases this with rfl | rfl | rfl | rfl <;> rfl
  · have h5 : t = 4 := by omega
    subst h5
    rw [zct_l hs]
    show H1[E.bs + σ.n]? = some (vp_cell _ _)
    rw [vp_cell_l, e1]
    congr 2
    funext j
    show defaultValue (aty 4) = .long (Int64.ofInt (if σ.n = σ.n then 0 else _))
    rw [if_pos rfl]; rfl
end VMORE
