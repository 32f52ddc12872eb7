/-! ROWS of VV: arrays of references, copies, Object.<init>, throws, Math -/
section VJDK
variable {E : XE} {M : MI} {d pc pc' pc2 : Nat} {L L' : List (Nat × AV)} {st : List AV} {σ : Sto} {Q : Res → Sto → Prop}
theorem v_anew {t z index : Nat} {x : Int} {C : String} (hd : DD M.cc pc 3 pc' (.anewarray index)) (ht : 4 < t ∧ t < 8) (hty : aty t = .object C) (hcl : Cond.classLink M.y.cls index C ∈ lw_all) (hov : Cond.arrayOver (.object C) ∈ lw_tbl) (hx : x = z) (hz : z < 1000000) (hk1 : σ.n + 1 ≤ NC) (hn1 : ssum σ + z ≤ NS) (h : VV E M d pc' L (aO σ.n :: st) (σ.al t z) Q) : VV E M d pc L (aI x :: st) σ Q := by
  obtain ⟨hd, rfl⟩ := hd
  subst hx
  intro p l e R s m args below meth c n0 s0 σ0 hC H locs hR hlo hN ls hl
  have h0 : ¬ Int32.ofInt (z : Int) < 0 := by rw [i32_0, i32_lt ⟨by omega, by omega⟩ inR_0]; omega
  have hc0 : (Int32.ofInt (z : Int)).toNatClampNeg = z := by rw [i32_cl (by omega) (by omega)]; rfl
  show W _ _ _ _ _ _ _ _ _ _ _ _ _ _ _ (F0 m pc ls (.int (Int32.ofInt z) :: st.map (cv E)))
  have hov' : va_AO C s := hC.ns _ (nst_in hov rfl)
  refine W.anew hC.ex hC.by hC.own (hC.wd _ hcl args) (va_AO.use hov') rfl hd rfl h0 (by rw [hc0]; omega) (by have := hC.nc; have := hN.1; omega) (by rw [hc0]; have := hC.nS; have := hN.2.1; omega) fun cA kA comp f1 f2 f3 f4 => ?_
  have hT : TI (σ.al t z) := hR.2.2.2.al (Or.inl (by omega)) (by omega) hk1 hn1
  have hRA := (hC.kk.2 t _ (zTy E ht.2)).2
  rw [hty] at hRA
  obtain ⟨kA', comp', k1, k2, k3, k4⟩ := hRA
  have hcA : cA = E.tc t := Option.some.inj (f1.symm.trans k4)
  subst hcA
  rw [hc0]
  show W _ _ _ _ _ _ _ _ _ _ _ _ _ _ _ (F0 m (pc + 3) ls (.ref H.size :: st.map (cv E)))
  rw [hR.1]
  have hn0 := hN.1
  have hs0 := hN.2.1
  have c1 : σ.n - n0 + 1 = (σ.al t z).n - n0 := by show _ = σ.n + 1 - n0; omega
  have c2 : ssum σ - s0 + z = ssum (σ.al t z) - s0 := by rw [ssum_al]; omega
  rw [c1, c2]
  refine h p l e R s m args below meth c n0 s0 σ0 hC _ locs (hR.al hT (by rw [Array.size_push]) (fun y hy => by rw [Array.getElem?_push, if_neg (by omega)]) ?_) hlo (hN.al hR.2.2.2) ls hl
  have hs : (σ.al t z).sh σ.n = (t, z) := if_pos rfl
  rw [zct_q hs ht.1 ht.2]
  show _ = some (vp_cell _ _)
  rw [vp_cell_q, ← hR.1, Array.getElem?_push_size]
  have e1 := arrV_new (E.tc t) z (.null)
  rw [e1]
  congr 2
  funext j
  show Value.null = va_rf ((if σ.n = σ.n then none else _).map _)
  rw [if_pos rfl]; rfl
theorem v_objInit {index b : Nat} (hd : DD M.cc pc 3 pc' (.invokespecial index)) (hlink : Cond.methodLink M.y.cls index objectInit ∈ lw_all) (hinst : Cond.instanceMethod objectInit ∈ lw_all) (hcode : Cond.code objectInit ⟨#[0xb1]⟩ 1 none ∈ lw_all) (hdd : 1 ≤ d) (hst : awords st ≤ 80) (h : VV E M d pc' L st σ Q) : VV E M d pc L (aO b :: st) σ Q := by
  obtain ⟨hd, rfl⟩ := hd
  intro p l e R s m args below meth c n0 s0 σ0 hC H locs hR hlo hN ls hl
  have hw := hC.wd
  have hsum : ((st.map (cv E)).map fun v => v.category).sum = awords st := by
    clear hst h
    induction st with
    | nil => rfl
    | cons v vs ih => simp only [List.map_cons, List.sum_cons, awords, cv_cat] at ih ⊢; omega
  refine W.objInit (g := F0 m pc ls ((aO b :: st).map (cv E))) hC.ex hC.by hC.own (hw _ hlink args) (hw _ hinst args) (hw _ hcode args) rfl (by rw [hC.ml]; exact hl.1) rfl hd (by have := hC.fr; omega) (by show 2 * 0 + _ + 12 ≤ R.locals; rw [hsum]; have := hC.lo; omega) ?_
  exact h p l e R s m args below meth c n0 s0 σ0 hC H locs hR hlo hN ls hl
theorem v_athrow {a : Nat} (hd : DD M.cc pc 1 pc' .athrow) (hno : noH M pc) (hq : Q (.inr a) σ) : VV E M d pc L (aO a :: st) σ Q := by
  obtain ⟨hd, rfl⟩ := hd
  intro p l e R s m args below meth c n0 s0 σ0 hC H locs hR hlo hN ls hl
  intro T hT X
  obtain ⟨b1, b2, b3, b4, b5⟩ := X.athrowLeaves hC.ex (g := F0 m pc ls ((aO a :: st).map (cv E))) rfl rfl rfl (hout_of hC hno) (a := E.bs + a) (rest := st.map (cv E)) rfl (by rw [hC.by]; exact hd) hC.lk
  refine ⟨_, b1, .inr a, σ, locs, b2, b3, hq, ?_, hN, b4, b5, hlo⟩
  show Rel E σ T.heap
  rw [hT]; exact hR
theorem v_copy {index a b t za zb : Nat} {i j z : Int} (hd : DD M.cc pc 3 pc' (.invokestatic index)) (hlink : Cond.methodLink M.y.cls index arraycopyName ∈ lw_all) (hnat : Cond.native arraycopyName ∈ lw_all) (hstat : Cond.static arraycopyName ∈ lw_all) (hini : Cond.initialized "java/lang/System" ∈ lw_all) (ha : σ.sh a = (t, za)) (hb : σ.sh b = (t, zb)) (ht : t < 4) (hi : 0 ≤ i) (hj : 0 ≤ j) (hz : 0 ≤ z) (h1 : i + z ≤ za) (h2 : j + z ≤ zb) (hdd : 1 ≤ d) (hst : awords st ≤ 70) (h : VV E M d pc' L st (σ.cp a i b j z) Q) : VV E M d pc L (aI z :: aI j :: aO b :: aI i :: aO a :: st) σ Q := by
  obtain ⟨hd, rfl⟩ := hd
  intro p l e R s m args below meth c n0 s0 σ0 hC H locs hR hlo hN ls hl
  have hw := hC.wd
  have hT0 := hR.2.2.2
  have hza : za < 2147483648 := by have := hT0.2.2.1 a; rw [ha] at this; exact this
  have hzb : zb < 2147483648 := by have := hT0.2.2.1 b; rw [hb] at this; exact this
  have hsum : ((st.map (cv E)).map fun v => v.category).sum = awords st := by
    clear hst h
    induction st with
    | nil => rfl
    | cons v vs ih => simp only [List.map_cons, List.sum_cons, awords, cv_cat] at ih ⊢; omega
  have hna := hT0.lt ha (by omega)
  have hnb := hT0.lt hb (by omega)
  have q0 : (zws E σ)[a]? = _ := (zws_at hna).trans (by rw [zct_i ha ht])
  have q1 : (zws E σ)[b]? = _ := (zws_at hnb).trans (by rw [zct_i hb ht])
  have hc0 := hR.2.2.1 a _ q0
  have hc1 := hR.2.2.1 b _ q1
  obtain ⟨-, k0, hk0, cm0, hkk0⟩ := (hC.kk.2 t _ (zTy E (by omega))).1 za (fun y => .int (Int32.ofInt (σ.I a y)))
  obtain ⟨-, k1, hk1, cm1, hkk1⟩ := (hC.kk.2 t _ (zTy E (by omega))).1 zb (fun y => .int (Int32.ofInt (σ.I b y)))
  have ni : ¬ Int32.ofInt i < 0 := by rw [i32_0, i32_lt ⟨by omega, by omega⟩ inR_0]; omega
  have nj : ¬ Int32.ofInt j < 0 := by rw [i32_0, i32_lt ⟨by omega, by omega⟩ inR_0]; omega
  have nz : ¬ Int32.ofInt z < 0 := by rw [i32_0, i32_lt ⟨by omega, by omega⟩ inR_0]; omega
  have ei := i32_to (x := i) ⟨by omega, by omega⟩
  have ej := i32_to (x := j) ⟨by omega, by omega⟩
  have ez := i32_to (x := z) ⟨by omega, by omega⟩
  have ci := i32_cl hi (show i < 2147483648 by omega)
  have cj := i32_cl hj (show j < 2147483648 by omega)
  have cz := i32_cl hz (show z < 2147483648 by omega)
  have hprim : refKind (aty t) = false := by
    have : t = 0 ∨ t = 1 ∨ t = 2 ∨ t = 3 := by omega
    rcases this with rfl | rfl | rfl | rfl <;> rfl
  have h4t : aty t = .int ∨ aty t = .byte ∨ aty t = .short ∨ aty t = .boolean := by
    have : t = 0 ∨ t = 1 ∨ t = 2 ∨ t = 3 := by omega
    rcases this with rfl | rfl | rfl | rfl
    · exact Or.inl rfl
    · exact Or.inr (Or.inl rfl)
    · exact Or.inr (Or.inr (Or.inl rfl))
    · exact Or.inr (Or.inr (Or.inr rfl))
  intro T hT X
  obtain ⟨vm', X', step⟩ := X.arraycopy hC.ex hC.own (hw _ hlink args) (hw _ hnat args) (hw _ hstat args) (hw _ hini args) (src := E.bs + a) (dst := E.bs + b) (cs := vp_cell (E.tc t) (za, .inl fun y => Int32.ofInt (σ.I a y))) (cd := vp_cell (E.tc t) (zb, .inl fun y => Int32.ofInt (σ.I b y))) (srcPos := Int32.ofInt i) (destPos := Int32.ofInt j) (n := Int32.ofInt z) (by rw [hT]; exact hc0) (by rw [hT]; exact hc1)
    (fun _ h => by cases h) (fun _ h => by cases h) (fun h => by cases h) (fun h => by cases h) hk0 hk1 hkk0 hkk1 (by simp [hprim]) ni nj nz
    (by rw [ei, ez]; show ¬ _ > ((arrV _ za _).slots.size : Int); rw [arrV_size]; omega)
    (by rw [ej, ez]; show ¬ _ > ((arrV _ zb _).slots.size : Int); rw [arrV_size]; omega)
    (fun vm₁ _ y hy => by
      rw [cz] at hy
      have e : (vp_cell (E.tc t) (za, .inl fun y => Int32.ofInt (σ.I a y))).slots.getD ((Int32.ofInt i).toNatClampNeg + y) .null = .int (Int32.ofInt (σ.I a ((i.toNat + y : Nat) : Int))) := by
        show (arrV _ za _).slots.getD _ _ = _
        rw [ci, Array.getD_eq_getD_getElem?, arrV_read _ _ (by omega)]
        rfl
      refine ⟨?_, ?_⟩
      · rw [e]
        have h9 := hT0.1 a ((i.toNat + y : Nat) : Int)
        rw [ha, zty, if_pos (show t < 100 by omega)] at h9
        exact fits_of h9 h4t
      · rw [e]
        exact trivial)
    (g := F0 m pc ls (.int (Int32.ofInt z) :: .int (Int32.ofInt j) :: .ref (E.bs + b) :: .int (Int32.ofInt i) :: .ref (E.bs + a) :: st.map (cv E))) rfl (by rw [hC.ml]; exact hl.1) (rest := st.map (cv E)) rfl (by rw [hC.by]; exact hd) (by have := hC.fr; omega) (by show 2 * 0 + _ + (7 + 11) ≤ R.locals; rw [hsum]; have := hC.lo; omega)
  have e1 : copied (vp_cell (E.tc t) (za, .inl fun y => Int32.ofInt (σ.I a y))) (vp_cell (E.tc t) (zb, .inl fun y => Int32.ofInt (σ.I b y))) (Int32.ofInt i) (Int32.ofInt j) (Int32.ofInt z) = vp_cell (E.tc t) (zb, .inl (va_cpy (fun y : Nat => Int32.ofInt (σ.I a y)) (fun y : Nat => Int32.ofInt (σ.I b y)) (Int32.ofInt i).toNatClampNeg (Int32.ofInt j).toNatClampNeg (Int32.ofInt z).toNatClampNeg)) := va_copied (fun z => .int z) (E.tc t) (E.tc t) (fun y : Nat => Int32.ofInt (σ.I a y)) (fun y : Nat => Int32.ofInt (σ.I b y)) (show (Int32.ofInt i).toNatClampNeg + (Int32.ofInt z).toNatClampNeg ≤ za by rw [ci, cz]; omega)
  rw [e1, ci, cj, cz, ← cpy_i hi hj hz] at X' step
  have hTh : ((T.setVm vm').setCell (E.bs + b) (vp_cell (E.tc t) (zb, .inl fun y => Int32.ofInt ((σ.cp a i b j z).I b y)))).heap = H.setIfInBounds (E.bs + b) (vp_cell (E.tc t) (zb, .inl fun y => Int32.ofInt ((σ.cp a i b j z).I b y))) := by rw [← hT]; rfl
  have hbl : E.bs + b < H.size := by rw [hR.1]; omega
  have oq : ∀ q : Nat, q ≠ E.bs + b → (H.setIfInBounds (E.bs + b) (vp_cell (E.tc t) (zb, .inl fun y => Int32.ofInt ((σ.cp a i b j z).I b y))))[q]? = H[q]? := fun q hq => by simp [Array.getElem?_setIfInBounds, Ne.symm hq]
  have hRel : Rel E (σ.cp a i b j z) (H.setIfInBounds (E.bs + b) (vp_cell (E.tc t) (zb, .inl fun y => Int32.ofInt ((σ.cp a i b j z).I b y)))) := by
    refine hR.cp hnb (hT0.cp ha hb (by omega)) ?_ (by simp) oq
    rw [zct_i (σ := σ.cp a i b j z) hb ht]
    show (H.setIfInBounds (E.bs + b) _)[E.bs + b]? = some _
    simp [Array.getElem?_setIfInBounds, hbl]
  obtain ⟨t2, a1, b1⟩ := h p l e R s m args below meth c n0 s0 σ0 hC _ _ hRel (fun q hq => by
      rcases List.mem_append.mp hq with h | h
      · exact hlo q h
      · obtain ⟨y, -, hy⟩ := List.mem_map.mp h
        rw [← hy]
        exact Nat.le_add_right E.bs b) hN ls hl _ hTh X'
  exact ⟨t2, step t2 a1, b1⟩
theorem v_copyL {index a b za zb : Nat} {i j z : Int} (hd : DD M.cc pc 3 pc' (.invokestatic index)) (hlink : Cond.methodLink M.y.cls index arraycopyName ∈ lw_all) (hnat : Cond.native arraycopyName ∈ lw_all) (hstat : Cond.static arraycopyName ∈ lw_all) (hini : Cond.initialized "java/lang/System" ∈ lw_all) (ha : σ.sh a = (4, za)) (hb : σ.sh b = (4, zb)) (hi : 0 ≤ i) (hj : 0 ≤ j) (hz : 0 ≤ z) (h1 : i + z ≤ za) (h2 : j + z ≤ zb) (hdd : 1 ≤ d) (hst : awords st ≤ 70) (h : VV E M d pc' L st (σ.cp a i b j z) Q) : VV E M d pc L (aI z :: aI j :: aO b :: aI i :: aO a :: st) σ Q := by
  obtain ⟨hd, rfl⟩ := hd
  intro p l e R s m args below meth c n0 s0 σ0 hC H locs hR hlo hN ls hl
  have hw := hC.wd
  have hT0 := hR.2.2.2
  have hza : za < 2147483648 := by have := hT0.2.2.1 a; rw [ha] at this; exact this
  have hzb : zb < 2147483648 := by have := hT0.2.2.1 b; rw [hb] at this; exact this
  have hsum : ((st.map (cv E)).map fun v => v.category).sum = awords st := by
    clear hst h
    induction st with
    | nil => rfl
    | cons v vs ih => simp only [List.map_cons, List.sum_cons, awords, cv_cat] at ih ⊢; omega
  have hna := hT0.lt ha (by omega)
  have hnb := hT0.lt hb (by omega)
  have q0 : (zws E σ)[a]? = _ := (zws_at hna).trans (by rw [zct_l ha])
  have q1 : (zws E σ)[b]? = _ := (zws_at hnb).trans (by rw [zct_l hb])
  have hc0 := hR.2.2.1 a _ q0
  have hc1 := hR.2.2.1 b _ q1
  obtain ⟨-, k0, hk0, cm0, hkk0⟩ := (hC.kk.2 4 _ (zTy E (by omega))).1 za (fun y => .long (Int64.ofInt (σ.I a y)))
  obtain ⟨-, k1, hk1, cm1, hkk1⟩ := (hC.kk.2 4 _ (zTy E (by omega))).1 zb (fun y => .long (Int64.ofInt (σ.I b y)))
  have ni : ¬ Int32.ofInt i < 0 := by rw [i32_0, i32_lt ⟨by omega, by omega⟩ inR_0]; omega
  have nj : ¬ Int32.ofInt j < 0 := by rw [i32_0, i32_lt ⟨by omega, by omega⟩ inR_0]; omega
  have nz : ¬ Int32.ofInt z < 0 := by rw [i32_0, i32_lt ⟨by omega, by omega⟩ inR_0]; omega
  have ei := i32_to (x := i) ⟨by omega, by omega⟩
  have ej := i32_to (x := j) ⟨by omega, by omega⟩
  have ez := i32_to (x := z) ⟨by omega, by omega⟩
  have ci := i32_cl hi (show i < 2147483648 by omega)
  have cj := i32_cl hj (show j < 2147483648 by omega)
  have cz := i32_cl hz (show z < 2147483648 by omega)
  have hprim : refKind (aty 4) = false := rfl
  intro T hT X
  obtain ⟨vm', X', step⟩ := X.arraycopy hC.ex hC.own (hw _ hlink args) (hw _ hnat args) (hw _ hstat args) (hw _ hini args) (src := E.bs + a) (dst := E.bs + b) (cs := vp_cell (E.tc 4) (za, .inr (.inl fun y => Int64.ofInt (σ.I a y)))) (cd := vp_cell (E.tc 4) (zb, .inr (.inl fun y => Int64.ofInt (σ.I b y)))) (srcPos := Int32.ofInt i) (destPos := Int32.ofInt j) (n := Int32.ofInt z) (by rw [hT]; exact hc0) (by rw [hT]; exact hc1)
    (fun _ h => by cases h) (fun _ h => by cases h) (fun h => by cases h) (fun h => by cases h) hk0 hk1 hkk0 hkk1 (by simp [hprim]) ni nj nz
    (by rw [ei, ez]; show ¬ _ > ((arrV _ za _).slots.size : Int); rw [arrV_size]; omega)
    (by rw [ej, ez]; show ¬ _ > ((arrV _ zb _).slots.size : Int); rw [arrV_size]; omega)
    (fun vm₁ _ y hy => by
      rw [cz] at hy
      have e : (vp_cell (E.tc 4) (za, .inr (.inl fun y => Int64.ofInt (σ.I a y)))).slots.getD ((Int32.ofInt i).toNatClampNeg + y) .null = .long (Int64.ofInt (σ.I a ((i.toNat + y : Nat) : Int))) := by
        show (arrV _ za _).slots.getD _ _ = _
        rw [ci, Array.getD_eq_getD_getElem?, arrV_read _ _ (by omega)]
        rfl
      refine ⟨?_, ?_⟩
      · rw [e]
        rfl
      · rw [e]
        exact trivial)
    (g := F0 m pc ls (.int (Int32.ofInt z) :: .int (Int32.ofInt j) :: .ref (E.bs + b) :: .int (Int32.ofInt i) :: .ref (E.bs + a) :: st.map (cv E))) rfl (by rw [hC.ml]; exact hl.1) (rest := st.map (cv E)) rfl (by rw [hC.by]; exact hd) (by have := hC.fr; omega) (by show 2 * 0 + _ + (7 + 11) ≤ R.locals; rw [hsum]; have := hC.lo; omega)
  have e1 : copied (vp_cell (E.tc 4) (za, .inr (.inl fun y => Int64.ofInt (σ.I a y)))) (vp_cell (E.tc 4) (zb, .inr (.inl fun y => Int64.ofInt (σ.I b y)))) (Int32.ofInt i) (Int32.ofInt j) (Int32.ofInt z) = vp_cell (E.tc 4) (zb, .inr (.inl (va_cpy (fun y : Nat => Int64.ofInt (σ.I a y)) (fun y : Nat => Int64.ofInt (σ.I b y)) (Int32.ofInt i).toNatClampNeg (Int32.ofInt j).toNatClampNeg (Int32.ofInt z).toNatClampNeg))) := va_copied (fun z => .long z) (E.tc 4) (E.tc 4) (fun y : Nat => Int64.ofInt (σ.I a y)) (fun y : Nat => Int64.ofInt (σ.I b y)) (show (Int32.ofInt i).toNatClampNeg + (Int32.ofInt z).toNatClampNeg ≤ za by rw [ci, cz]; omega)
  rw [e1, ci, cj, cz, ← cpy_l hi hj hz] at X' step
  have hTh : ((T.setVm vm').setCell (E.bs + b) (vp_cell (E.tc 4) (zb, .inr (.inl fun y => Int64.ofInt ((σ.cp a i b j z).I b y))))).heap = H.setIfInBounds (E.bs + b) (vp_cell (E.tc 4) (zb, .inr (.inl fun y => Int64.ofInt ((σ.cp a i b j z).I b y)))) := by rw [← hT]; rfl
  have hbl : E.bs + b < H.size := by rw [hR.1]; omega
  have oq : ∀ q : Nat, q ≠ E.bs + b → (H.setIfInBounds (E.bs + b) (vp_cell (E.tc 4) (zb, .inr (.inl fun y => Int64.ofInt ((σ.cp a i b j z).I b y)))))[q]? = H[q]? := fun q hq => by simp [Array.getElem?_setIfInBounds, Ne.symm hq]
  have hRel : Rel E (σ.cp a i b j z) (H.setIfInBounds (E.bs + b) (vp_cell (E.tc 4) (zb, .inr (.inl fun y => Int64.ofInt ((σ.cp a i b j z).I b y))))) := by
    refine hR.cp hnb (hT0.cp ha hb (by omega)) ?_ (by simp) oq
    rw [zct_l (σ := σ.cp a i b j z) hb]
    show (H.setIfInBounds (E.bs + b) _)[E.bs + b]? = some _
    simp [Array.getElem?_setIfInBounds, hbl]
  obtain ⟨t2, a1, b1⟩ := h p l e R s m args below meth c n0 s0 σ0 hC _ _ hRel (fun q hq => by
      rcases List.mem_append.mp hq with h | h
      · exact hlo q h
      · obtain ⟨y, -, hy⟩ := List.mem_map.mp h
        rw [← hy]
        exact Nat.le_add_right E.bs b) hN ls hl _ hTh X'
  exact ⟨t2, step t2 a1, b1⟩
theorem v_imax {index : Nat} {x y : Int} (hd : DD M.cc pc 3 pc' (.invokestatic index)) (hlink : Cond.methodLink M.y.cls index Lib.Math.max.name ∈ lw_all) (hstat : Cond.static Lib.Math.max.name ∈ lw_all) (hini : Cond.initialized "java/lang/Math" ∈ lw_all) (hcode : Cond.code Lib.Math.max.name Lib.Math.max.code 2 (some .int) ∈ lw_all) (hx : inR x) (hy : inR y) (hdd : 1 ≤ d) (hst : awords st ≤ 80) (h : VV E M d pc' L (aI (max x y) :: st) σ Q) : VV E M d pc L (aI y :: aI x :: st) σ Q := by
  obtain ⟨hd, rfl⟩ := hd
  intro p l e R s m args below meth c n0 s0 σ0 hC H locs hR hlo hN ls hl
  have hw := hC.wd
  have hsum : ((st.map (cv E)).map fun v => v.category).sum = awords st := by
    clear hst h
    induction st with
    | nil => rfl
    | cons v vs ih => simp only [List.map_cons, List.sum_cons, awords, cv_cat] at ih ⊢; omega
  show W _ _ _ _ _ _ _ _ _ _ _ _ _ _ _ (F0 m pc ls (.int (Int32.ofInt y) :: .int (Int32.ofInt x) :: st.map (cv E)))
  refine va_mmax hC.ex hC.by (by rw [hC.ml]; exact hl.1.symm) hC.own (hw _ hlink args) (hw _ hstat args) (hw _ hini args) (hw _ hcode args) (by have := hC.fr; omega) (by show _ + 13 ≤ R.locals; rw [hsum]; have := hC.lo; omega) (by have := hC.nc; have := hR.2.2.2.2.2.2.2.1; omega) (by have := hC.nS; have := hR.2.2.2.2.2.2.2.2; omega) hd ?_
  have e1 : (if Int32.ofInt x < Int32.ofInt y then Int32.ofInt y else Int32.ofInt x) = Int32.ofInt (max x y) := by
    simp only [i32_lt hx hy]; split
    · rw [Int.max_eq_right (by omega)]
    · rw [Int.max_eq_left (by omega)]
  rw [e1]
  exact h p l e R s m args below meth c n0 s0 σ0 hC H locs hR hlo hN ls hl
theorem v_imin {index : Nat} {x y : Int} (hd : DD M.cc pc 3 pc' (.invokestatic index)) (hlink : Cond.methodLink M.y.cls index Lib.Math.min.name ∈ lw_all) (hstat : Cond.static Lib.Math.min.name ∈ lw_all) (hini : Cond.initialized "java/lang/Math" ∈ lw_all) (hcode : Cond.code Lib.Math.min.name Lib.Math.min.code 2 (some .int) ∈ lw_all) (hx : inR x) (hy : inR y) (hdd : 1 ≤ d) (hst : awords st ≤ 80) (h : VV E M d pc' L (aI (min x y) :: st) σ Q) : VV E M d pc L (aI y :: aI x :: st) σ Q := by
  obtain ⟨hd, rfl⟩ := hd
  intro p l e R s m args below meth c n0 s0 σ0 hC H locs hR hlo hN ls hl
  have hw := hC.wd
  have hsum : ((st.map (cv E)).map fun v => v.category).sum = awords st := by
    clear hst h
    induction st with
    | nil => rfl
    | cons v vs ih => simp only [List.map_cons, List.sum_cons, awords, cv_cat] at ih ⊢; omega
  show W _ _ _ _ _ _ _ _ _ _ _ _ _ _ _ (F0 m pc ls (.int (Int32.ofInt y) :: .int (Int32.ofInt x) :: st.map (cv E)))
  refine va_mmin hC.ex hC.by (by rw [hC.ml]; exact hl.1.symm) hC.own (hw _ hlink args) (hw _ hstat args) (hw _ hini args) (hw _ hcode args) (by have := hC.fr; omega) (by show _ + 13 ≤ R.locals; rw [hsum]; have := hC.lo; omega) (by have := hC.nc; have := hR.2.2.2.2.2.2.2.1; omega) (by have := hC.nS; have := hR.2.2.2.2.2.2.2.2; omega) hd ?_
  have e1 : (if Int32.ofInt y < Int32.ofInt x then Int32.ofInt y else Int32.ofInt x) = Int32.ofInt (min x y) := by
    simp only [i32_lt hy hx]; split
    · rw [Int.min_eq_right (by omega)]
    · rw [Int.min_eq_left (by omega)]
  rw [e1]
  exact h p l e R s m args below meth c n0 s0 σ0 hC H locs hR hlo hN ls hl
theorem v_lmax {index : Nat} {x y : Int} (hd : DD M.cc pc 3 pc' (.invokestatic index)) (hlink : Cond.methodLink M.y.cls index Lib.MathLoose.max_long.x ∈ lw_all) (hstat : Cond.static Lib.MathLoose.max_long.x ∈ lw_all) (hini : Cond.initialized "java/lang/Math" ∈ lw_all) (hcode : Cond.code Lib.MathLoose.max_long.x Lib.MathLoose.max_long.code 4 (some .long) ∈ lw_all) (hx : inL x) (hy : inL y) (hdd : 1 ≤ d) (hst : awords st ≤ 80) (h : VV E M d pc' L (aL (max x y) :: st) σ Q) : VV E M d pc L (aL y :: aL x :: st) σ Q := by
  obtain ⟨hd, rfl⟩ := hd
  intro p l e R s m args below meth c n0 s0 σ0 hC H locs hR hlo hN ls hl
  have hw := hC.wd
  have hsum : ((st.map (cv E)).map fun v => v.category).sum = awords st := by
    clear hst h
    induction st with
    | nil => rfl
    | cons v vs ih => simp only [List.map_cons, List.sum_cons, awords, cv_cat] at ih ⊢; omega
  show W _ _ _ _ _ _ _ _ _ _ _ _ _ _ _ (F0 m pc ls (.long (Int64.ofInt y) :: .long (Int64.ofInt x) :: st.map (cv E)))
  refine va_mmax_long hC.ex hC.by (by rw [hC.ml]; exact hl.1.symm) hC.own (hw _ hlink args) (hw _ hstat args) (hw _ hini args) (hw _ hcode args) (by have := hC.fr; omega) (by show _ + 15 ≤ R.locals; rw [hsum]; have := hC.lo; omega) (by have := hC.nc; have := hR.2.2.2.2.2.2.2.1; omega) (by have := hC.nS; have := hR.2.2.2.2.2.2.2.2; omega) hd ?_
  have e1 : (if Int64.ofInt y < Int64.ofInt x then Int64.ofInt x else Int64.ofInt y) = Int64.ofInt (max x y) := by
    simp only [i64_lt hy hx]; split
    · rw [Int.max_eq_left (by omega)]
    · rw [Int.max_eq_right (by omega)]
  rw [e1]
  exact h p l e R s m args below meth c n0 s0 σ0 hC H locs hR hlo hN ls hl
theorem v_lmin {index : Nat} {x y : Int} (hd : DD M.cc pc 3 pc' (.invokestatic index)) (hlink : Cond.methodLink M.y.cls index Lib.MathLoose.min_long.x ∈ lw_all) (hstat : Cond.static Lib.MathLoose.min_long.x ∈ lw_all) (hini : Cond.initialized "java/lang/Math" ∈ lw_all) (hcode : Cond.code Lib.MathLoose.min_long.x Lib.MathLoose.min_long.code 4 (some .long) ∈ lw_all) (hx : inL x) (hy : inL y) (hdd : 1 ≤ d) (hst : awords st ≤ 80) (h : VV E M d pc' L (aL (min x y) :: st) σ Q) : VV E M d pc L (aL y :: aL x :: st) σ Q := by
  obtain ⟨hd, rfl⟩ := hd
  intro p l e R s m args below meth c n0 s0 σ0 hC H locs hR hlo hN ls hl
  have hw := hC.wd
  have hsum : ((st.map (cv E)).map fun v => v.category).sum = awords st := by
    clear hst h
    induction st with
    | nil => rfl
    | cons v vs ih => simp only [List.map_cons, List.sum_cons, awords, cv_cat] at ih ⊢; omega
  show W _ _ _ _ _ _ _ _ _ _ _ _ _ _ _ (F0 m pc ls (.long (Int64.ofInt y) :: .long (Int64.ofInt x) :: st.map (cv E)))
  refine va_mmin_long hC.ex hC.by (by rw [hC.ml]; exact hl.1.symm) hC.own (hw _ hlink args) (hw _ hstat args) (hw _ hini args) (hw _ hcode args) (by have := hC.fr; omega) (by show _ + 15 ≤ R.locals; rw [hsum]; have := hC.lo; omega) (by have := hC.nc; have := hR.2.2.2.2.2.2.2.1; omega) (by have := hC.nS; have := hR.2.2.2.2.2.2.2.2; omega) hd ?_
  have e1 : (if Int64.ofInt y < Int64.ofInt x then Int64.ofInt y else Int64.ofInt x) = Int64.ofInt (min x y) := by
    simp only [i64_lt hy hx]; split
    · rw [Int.min_eq_right (by omega)]
    · rw [Int.min_eq_left (by omega)]
  rw [e1]
  exact h p l e R s m args below meth c n0 s0 σ0 hC H locs hR hlo hN ls hl
end VJDK
