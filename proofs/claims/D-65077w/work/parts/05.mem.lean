/-! ROWS of VV: fields and arrays -/
def up2 {α : Type} (f : Nat → Int → α) (a : Nat) (i : Int) (v : α) : Nat → Int → α := fun b j => if b = a ∧ j = i then v else f b j
def Sto.wI (σ : Sto) (a : Nat) (i : Int) (v : Int) : Sto := (up2 σ.I a i v, σ.R, σ.sh, σ.n)
def Sto.wR (σ : Sto) (a : Nat) (i : Int) (v : Option Nat) : Sto := (σ.I, up2 σ.R a i v, σ.sh, σ.n)
theorem TI.lt {σ : Sto} (h : TI σ) {a t z : Nat} (hs : σ.sh a = (t, z)) (ht : t ≠ 99) : a < σ.n := by
  rcases Nat.lt_or_ge a σ.n with q | q
  · exact q
  · have := (h.2.1 a q).1
    rw [hs] at this
    exact absurd (congrArg Prod.fst this) ht
theorem zws_at {E : XE} {σ : Sto} {a : Nat} (h : a < σ.n) : (zws E σ)[a]? = some (E.bs + a, zct E σ a) := by
  rw [zws, List.getElem?_map, List.getElem?_range h]; rfl
theorem zws_ext {E : XE} {σ σ' : Sto} {a : Nat} (hn : σ'.n = σ.n) (ha : a < σ.n) (h : ∀ b, b ≠ a → zct E σ' b = zct E σ b) : zws E σ' = (zws E σ).set a (E.bs + a, zct E σ' a) := by
  apply List.ext_getElem?
  intro j
  rw [List.getElem?_set]
  have hl : (zws E σ).length = σ.n := by simp [zws]
  by_cases hj : a = j
  · subst hj
    rw [if_pos rfl, if_pos (by rw [hl]; exact ha), zws_at (by rw [hn]; exact ha)]
  · rw [if_neg hj, zws, zws, List.getElem?_map, List.getElem?_map, hn]
    cases hq : (List.range σ.n)[j]? with
    | none => rfl
    | some b =>
      have hb : b = j := by
        have h1 := (List.getElem?_eq_some_iff.mp hq)
        obtain ⟨h2, h3⟩ := h1
        rw [List.getElem_range] at h3
        exact h3.symm
      subst hb
      simp only [Option.map_some]
      rw [h b (fun z => hj z.symm)]
theorem zct_sh {E : XE} {σ σ' : Sto} {b : Nat} (hs : σ'.sh b = σ.sh b) (hI : ∀ i, σ'.I b i = σ.I b i) (hR : ∀ i, σ'.R b i = σ.R b i) : zct E σ' b = zct E σ b := by
  unfold zct zfs zarr
  rw [hs]
  simp only [hI, hR]
theorem up2_ne {α : Type} {f : Nat → Int → α} {a b : Nat} {i j : Int} {v : α} (h : b ≠ a) : up2 f a i v b j = f b j := if_neg (fun z => h z.1)
theorem up2_at {α : Type} {f : Nat → Int → α} {a : Nat} {i : Int} {v : α} : up2 f a i v a i = v := if_pos ⟨rfl, rfl⟩
theorem up2_nj {α : Type} {f : Nat → Int → α} {a b : Nat} {i j : Int} {v : α} (h : j ≠ i) : up2 f a i v b j = f b j := if_neg (fun z => h z.2)
theorem wI_set {E : XE} {σ : Sto} {a : Nat} {i v : Int} (ha : a < σ.n) : zws E (σ.wI a i v) = (zws E σ).set a (E.bs + a, zct E (σ.wI a i v) a) :=
  zws_ext rfl ha (fun b hb => zct_sh rfl (fun _ => up2_ne hb) (fun _ => rfl))
theorem wR_set {E : XE} {σ : Sto} {a : Nat} {i : Int} {v : Option Nat} (ha : a < σ.n) : zws E (σ.wR a i v) = (zws E σ).set a (E.bs + a, zct E (σ.wR a i v) a) :=
  zws_ext rfl ha (fun b hb => zct_sh rfl (fun _ => rfl) (fun _ => up2_ne hb))
theorem TI.wI {σ : Sto} (h : TI σ) {a : Nat} {i v : Int} (hv : inT (zty (σ.sh a) i) v) : TI (σ.wI a i v) := by
  refine ⟨fun b j => ?_, h.2⟩
  by_cases q : b = a ∧ j = i
  · obtain ⟨rfl, rfl⟩ := q
    show inT _ (up2 σ.I b j v b j)
    rw [up2_at]; exact hv
  · show inT _ (up2 σ.I a i v b j)
    rw [up2, if_neg q]; exact h.1 b j
theorem Nx.wR {n0 s0 : Nat} {σ0 σ : Sto} {a : Nat} {i : Int} {v : Option Nat} (h : Nx n0 s0 σ0 σ) (hy : dyn a i ∨ σ.R a i = none) : Nx n0 s0 σ0 (σ.wR a i v) := by
  refine ⟨h.1, h.2.1, fun b k c hd h1 => ?_, h.2.2.2.1, h.2.2.2.2⟩
  have h2 := h.2.2.1 b k c hd h1
  show up2 σ.R a i v b k = some c
  by_cases q : b = a ∧ k = i
  · obtain ⟨rfl, rfl⟩ := q
    rcases hy with hy | hy
    · exact absurd hy hd
    · rw [hy] at h2; cases h2
  · rw [up2, if_neg q]; exact h2
theorem TI.wR {σ : Sto} (h : TI σ) {a : Nat} {i : Int} {v : Option Nat} (hn : a < σ.n) : TI (σ.wR a i v) := by
  refine ⟨h.1, fun b hb => ⟨(h.2.1 b hb).1, fun k => ?_⟩, h.2.2⟩
  have hb' : σ.n ≤ b := hb
  show up2 σ.R a i v b k = none
  rw [up2_ne (by omega)]; exact (h.2.1 b hb).2 k
theorem zD {E : XE} {σ : Sto} : va_D (XA E) (zws E σ) := by
  refine ⟨fun i j p q hp hq h => ?_, fun k q hq => ?_⟩
  · rw [zws, List.getElem?_map] at hp hq
    cases h1 : (List.range σ.n)[i]? with
    | none => rw [h1] at hp; cases hp
    | some x =>
      cases h2 : (List.range σ.n)[j]? with
      | none => rw [h2] at hq; cases hq
      | some y =>
        rw [h1] at hp; rw [h2] at hq
        have e1 := (List.getElem?_eq_some_iff.mp h1).2
        have e2 := (List.getElem?_eq_some_iff.mp h2).2
        rw [List.getElem_range] at e1 e2
        have p1 := Option.some.inj hp
        have q1 := Option.some.inj hq
        subst p1; subst q1
        dsimp only at h
        omega
  · rw [zws, List.getElem?_map] at hq
    cases h1 : (List.range σ.n)[k]? with
    | none => rw [h1] at hq; cases hq
    | some x =>
      rw [h1] at hq
      have q1 := Option.some.inj hq
      subst q1
      exact Nat.le_add_right _ _
theorem zS {E : XE} {H : Heap} {locs : List Loc} (h : ∀ q ∈ locs, XA E q.base) : va_S (XA E) H H locs := ⟨Nat.le_refl _, fun _ _ _ => rfl, h⟩
theorem zTy (E : XE) {t : Nat} (h : t < 8) : E.tys[t]? = some (E.tc t, aty t) := by
  rw [XE.tys, List.getElem?_map, List.getElem?_range h]; rfl
/-- behind a write to cells of ours -/
theorem Rel.put {E : XE} {σ σ' : Sto} {H H1 : Heap} {locs1 : List Loc} (h : Rel E σ H) (hn : σ'.n = σ.n) (hz : H1.size = H.size) (hP : va_P E.D clV (zws E σ') H1) (hS : va_S (XA E) H H1 locs1) (hT : TI σ') : Rel E σ' H1 :=
  ⟨by rw [hz, h.1, hn], fun q hq => by rw [hS.2.1 q (by rw [h.1]; omega) (fun z => by have : E.bs ≤ q := z; omega)]; exact h.2.1 q hq, hP, hT⟩
theorem ofNat_ofInt {i : Int} (h : 0 ≤ i) : ((i.toNat : Nat) : Int) = i := Int.toNat_of_nonneg h
theorem zI_upd {E : XE} {σ : Sto} {a : Nat} {i v : Int} (h0 : 0 ≤ i) : (fun j : Nat => Int32.ofInt ((σ.wI a i v).I a j)) = upd (fun j : Nat => Int32.ofInt (σ.I a j)) i.toNat (Int32.ofInt v) := by
  funext j
  show Int32.ofInt (up2 σ.I a i v a j) = if j = i.toNat then _ else _
  by_cases q : j = i.toNat
  · rw [if_pos q, up2, if_pos ⟨rfl, by rw [q]; exact ofNat_ofInt h0⟩]
  · rw [if_neg q, up2_nj (fun z => q (by rw [← z]; rfl))]
theorem zL_upd {E : XE} {σ : Sto} {a : Nat} {i v : Int} (h0 : 0 ≤ i) : (fun j : Nat => Int64.ofInt ((σ.wI a i v).I a j)) = vp_updL (fun j : Nat => Int64.ofInt (σ.I a j)) i.toNat (Int64.ofInt v) := by
  funext j
  show Int64.ofInt (up2 σ.I a i v a j) = if j = i.toNat then _ else _
  by_cases q : j = i.toNat
  · rw [if_pos q, up2, if_pos ⟨rfl, by rw [q]; exact ofNat_ofInt h0⟩]
  · rw [if_neg q, up2_nj (fun z => q (by rw [← z]; rfl))]
theorem zct_i {E : XE} {σ : Sto} {a t z : Nat} (hs : σ.sh a = (t, z)) (ht : t < 4) : zct E σ a = .inl (E.tc t, z, .inl fun j => Int32.ofInt (σ.I a j)) := by
  have h : t < 100 := by omega
  rw [zct, hs]
  show (if t < 100 then (Sum.inl (E.tc t, z, zarr E σ a t) : va_E) else _) = _
  rw [if_pos h, zarr, if_pos ht]
theorem zct_l {E : XE} {σ : Sto} {a z : Nat} (hs : σ.sh a = (4, z)) : zct E σ a = .inl (E.tc 4, z, .inr (.inl fun j => Int64.ofInt (σ.I a j))) := by
  rw [zct, hs]; rfl
theorem zct_q {E : XE} {σ : Sto} {a t z : Nat} (hs : σ.sh a = (t, z)) (ht : 4 < t) (ht8 : t < 8) : zct E σ a = .inl (E.tc t, z, .inr (.inr (.inr (.inr fun j => (σ.R a j).map (E.bs + ·))))) := by
  rw [zct, hs]
  show (if t < 100 then (Sum.inl (E.tc t, z, zarr E σ a t) : va_E) else _) = _
  rw [if_pos (by omega), zarr, if_neg (by omega), if_neg (by omega)]
section VMEM
variable {E : XE} {M : MI} {d pc pc' : Nat} {L L' : List (Nat × AV)} {st : List AV} {σ : Sto} {Q : Res → Sto → Prop}
theorem v_iald {a z : Nat} {i : Int} (hd : DD M.cc pc 1 pc' .iaload) (hs : σ.sh a = (0, z)) (h0 : 0 ≤ i) (h1 : i < z) (h : inR (σ.I a i) → VV E M d pc' L (aI (σ.I a i) :: st) σ Q) : VV E M d pc L (aI i :: aO a :: st) σ Q := by
  obtain ⟨hd, rfl⟩ := hd
  intro p l e R s m args below meth c n0 s0 σ0 hC H locs hR hlo hN ls hl
  have hT := hR.2.2.2
  have hz : z < 2147483648 := by have := hT.2.2.1 a; rw [hs] at this; exact this
  have ha : (zws E σ)[a]? = _ := (zws_at (hT.lt hs (by omega))).trans (by rw [zct_i hs (by omega)])
  refine va_iald hC.ex hC.by hC.kk hR.2.2.1 a 0 ha (zTy E (t := 0) (by decide)) (i32_in h0 h1 hz) hd ?_
  rw [i32_cl h0 (by omega), ofNat_ofInt h0]
  exact h (by have := hT.1 a i; rw [hs] at this; exact this) p l e R s m args below meth c n0 s0 σ0 hC H locs hR hlo hN ls hl
theorem v_bald {a z : Nat} {i : Int} (hd : DD M.cc pc 1 pc' .baload) (hs : σ.sh a = (1, z)) (h0 : 0 ≤ i) (h1 : i < z) (h : -128 ≤ σ.I a i ∧ σ.I a i ≤ 127 → VV E M d pc' L (aI (σ.I a i) :: st) σ Q) : VV E M d pc L (aI i :: aO a :: st) σ Q := by
  obtain ⟨hd, rfl⟩ := hd
  intro p l e R s m args below meth c n0 s0 σ0 hC H locs hR hlo hN ls hl
  have hT := hR.2.2.2
  have hz : z < 2147483648 := by have := hT.2.2.1 a; rw [hs] at this; exact this
  have ha : (zws E σ)[a]? = _ := (zws_at (hT.lt hs (by omega))).trans (by rw [zct_i hs (by omega)])
  refine va_bald hC.ex hC.by hC.kk hR.2.2.1 a 1 ha (zTy E (t := 1) (by decide)) (i32_in h0 h1 hz) hd ?_
  rw [i32_cl h0 (by omega), ofNat_ofInt h0]
  exact h (by have := hT.1 a i; rw [hs] at this; exact this) p l e R s m args below meth c n0 s0 σ0 hC H locs hR hlo hN ls hl
theorem v_zald {a z : Nat} {i : Int} (hd : DD M.cc pc 1 pc' .baload) (hs : σ.sh a = (3, z)) (h0 : 0 ≤ i) (h1 : i < z) (h : 0 ≤ σ.I a i ∧ σ.I a i ≤ 1 → VV E M d pc' L (aI (σ.I a i) :: st) σ Q) : VV E M d pc L (aI i :: aO a :: st) σ Q := by
  obtain ⟨hd, rfl⟩ := hd
  intro p l e R s m args below meth c n0 s0 σ0 hC H locs hR hlo hN ls hl
  have hT := hR.2.2.2
  have hz : z < 2147483648 := by have := hT.2.2.1 a; rw [hs] at this; exact this
  have ha : (zws E σ)[a]? = _ := (zws_at (hT.lt hs (by omega))).trans (by rw [zct_i hs (by omega)])
  refine va_zald hC.ex hC.by hC.kk hR.2.2.1 a 3 ha (zTy E (t := 3) (by decide)) (i32_in h0 h1 hz) hd ?_
  rw [i32_cl h0 (by omega), ofNat_ofInt h0]
  exact h (by have := hT.1 a i; rw [hs] at this; exact this) p l e R s m args below meth c n0 s0 σ0 hC H locs hR hlo hN ls hl
theorem v_sald {a z : Nat} {i : Int} (hd : DD M.cc pc 1 pc' .saload) (hs : σ.sh a = (2, z)) (h0 : 0 ≤ i) (h1 : i < z) (h : -32768 ≤ σ.I a i ∧ σ.I a i ≤ 32767 → VV E M d pc' L (aI (σ.I a i) :: st) σ Q) : VV E M d pc L (aI i :: aO a :: st) σ Q := by
  obtain ⟨hd, rfl⟩ := hd
  intro p l e R s m args below meth c n0 s0 σ0 hC H locs hR hlo hN ls hl
  have hT := hR.2.2.2
  have hz : z < 2147483648 := by have := hT.2.2.1 a; rw [hs] at this; exact this
  have ha : (zws E σ)[a]? = _ := (zws_at (hT.lt hs (by omega))).trans (by rw [zct_i hs (by omega)])
  refine va_sald hC.ex hC.by hC.kk hR.2.2.1 a 2 ha (zTy E (t := 2) (by decide)) (i32_in h0 h1 hz) hd ?_
  rw [i32_cl h0 (by omega), ofNat_ofInt h0]
  exact h (by have := hT.1 a i; rw [hs] at this; exact this) p l e R s m args below meth c n0 s0 σ0 hC H locs hR hlo hN ls hl
theorem v_lald {a z : Nat} {i : Int} (hd : DD M.cc pc 1 pc' .laload) (hs : σ.sh a = (4, z)) (h0 : 0 ≤ i) (h1 : i < z) (h : inL (σ.I a i) → VV E M d pc' L (aL (σ.I a i) :: st) σ Q) : VV E M d pc L (aI i :: aO a :: st) σ Q := by
  obtain ⟨hd, rfl⟩ := hd
  intro p l e R s m args below meth c n0 s0 σ0 hC H locs hR hlo hN ls hl
  have hT := hR.2.2.2
  have hz : z < 2147483648 := by have := hT.2.2.1 a; rw [hs] at this; exact this
  have ha : (zws E σ)[a]? = _ := (zws_at (hT.lt hs (by omega))).trans (by rw [zct_l hs])
  refine va_lald hC.ex hC.by hC.kk hR.2.2.1 a 4 ha (zTy E (t := 4) (by decide)) (i32_in h0 h1 hz) hd ?_
  rw [i32_cl h0 (by omega), ofNat_ofInt h0]
  exact h (by have := hT.1 a i; rw [hs] at this; exact this) p l e R s m args below meth c n0 s0 σ0 hC H locs hR hlo hN ls hl
/-- behind a write to one of our arrays or objects -/
theorem Rel.wI {H H1 : Heap} {a : Nat} {i v : Int} (hR : Rel E σ H) (hn : a < σ.n) (hT : TI (σ.wI a i v)) (he : va_at E.D clV (E.bs + a, zct E (σ.wI a i v) a) H1) (hz : H1.size = H.size) (oq : ∀ q : Nat, q ≠ E.bs + a → H1[q]? = H[q]?) : Rel E (σ.wI a i v) H1 := by
  refine ⟨by rw [hz, hR.1]; rfl, fun q hq => ?_, ?_, hT⟩
  · rw [oq q (by omega)]; exact hR.2.1 q hq
  · rw [wI_set hn]; exact hR.2.2.1.set zD (zws_at hn) he oq
theorem Rel.wR {H H1 : Heap} {a : Nat} {i : Int} {v : Option Nat} (hR : Rel E σ H) (hn : a < σ.n) (he : va_at E.D clV (E.bs + a, zct E (σ.wR a i v) a) H1) (hz : H1.size = H.size) (oq : ∀ q : Nat, q ≠ E.bs + a → H1[q]? = H[q]?) : Rel E (σ.wR a i v) H1 := by
  refine ⟨by rw [hz, hR.1]; rfl, fun q hq => ?_, ?_, hR.2.2.2.wR hn⟩
  · rw [oq q (by omega)]; exact hR.2.1 q hq
  · rw [wR_set hn]; exact hR.2.2.1.set zD (zws_at hn) he oq
theorem locs_put {locs : List Loc} {a j : Nat} (h : ∀ q ∈ locs, XA E q.base) : ∀ q ∈ locs ++ [(⟨E.bs + a, j⟩ : Loc)], XA E q.base := t_lc h (Nat.le_add_right E.bs a)
theorem arr_new {cA : ClassId} {z j : Nat} {f : Nat → Int32} {x : Int32} : some ((arrV cA z (fun j => .int (f j))).setSlot j (.int x)) = some (vp_cell cA (z, .inl (upd f j x))) := by
  rw [vp_cell_i, arrV_store]
  congr 2
  funext q
  by_cases hq : q = j
  · subst hq; simp [updV, upd]
  · simp [updV, upd, hq]
theorem arr_newL {cA : ClassId} {z j : Nat} {f : Nat → Int64} {x : Int64} : some ((arrV cA z (fun j => .long (f j))).setSlot j (.long x)) = some (vp_cell cA (z, .inr (.inl (vp_updL f j x)))) := by
  rw [vp_cell_l, arrV_store]
  congr 2
  funext q
  by_cases hq : q = j
  · subst hq; simp [updV, vp_updL]
  · simp [updV, vp_updL, hq]
theorem v_iast {a z : Nat} {i x : Int} (hd : DD M.cc pc 1 pc' .iastore) (hs : σ.sh a = (0, z)) (h0 : 0 ≤ i) (h1 : i < z) (hx : inR x) (h : VV E M d pc' L st (σ.wI a i (x)) Q) : VV E M d pc L (aI x :: aI i :: aO a :: st) σ Q := by
  obtain ⟨hd, rfl⟩ := hd
  intro p l e R s m args below meth c n0 s0 σ0 hC H locs hR hlo hN ls hl
  have hT := hR.2.2.2
  have hz : z < 2147483648 := by have := hT.2.2.1 a; rw [hs] at this; exact this
  have hn := hT.lt hs (by omega)
  have ha : (zws E σ)[a]? = _ := (zws_at hn).trans (by rw [zct_i hs (by omega)])
  have hin := i32_in h0 h1 hz
  show W _ _ _ _ _ _ _ _ _ _ _ _ _ _ _ (F0 m pc ls (.int (Int32.ofInt x) :: .int (Int32.ofInt i) :: .ref (E.bs + a) :: st.map (cv E)))
  refine W.iast hC.ex hC.by (hR.2.2.1 a _ ha) ((hC.kk.2 0 _ (zTy E (t := 0) (by decide))).1 z (fun j => .int (Int32.ofInt (σ.I a j)))) (fun q => by cases q) (by show ¬ (_ < 0 ∨ (arrV _ _ _).slots.size ≤ _); rw [arrV_size]; exact hin) rfl rfl hd fun H1 e1 z1 oq => ?_
  refine h p l e R s m args below meth c n0 s0 σ0 hC H1 _ (hR.wI hn (hT.wI (by rw [hs]; exact hx)) ?_ z1 oq) (locs_put hlo) hN ls hl
  rw [zct_i (E := E) (σ := σ.wI a i (x)) hs (by omega), zI_upd (E := E) h0]
  show H1[E.bs + a]? = some (vp_cell _ _)
  rw [← arr_new, e1, i32_cl h0 (by omega)]
  rfl
theorem v_bast {a z : Nat} {i x : Int} (hd : DD M.cc pc 1 pc' .bastore) (hs : σ.sh a = (1, z)) (h0 : 0 ≤ i) (h1 : i < z) (h : VV E M d pc' L st (σ.wI a i (sx8 x)) Q) : VV E M d pc L (aI x :: aI i :: aO a :: st) σ Q := by
  obtain ⟨hd, rfl⟩ := hd
  intro p l e R s m args below meth c n0 s0 σ0 hC H locs hR hlo hN ls hl
  have hT := hR.2.2.2
  have hz : z < 2147483648 := by have := hT.2.2.1 a; rw [hs] at this; exact this
  have hn := hT.lt hs (by omega)
  have ha : (zws E σ)[a]? = _ := (zws_at hn).trans (by rw [zct_i hs (by omega)])
  have hin := i32_in h0 h1 hz
  show W _ _ _ _ _ _ _ _ _ _ _ _ _ _ _ (F0 m pc ls (.int (Int32.ofInt x) :: .int (Int32.ofInt i) :: .ref (E.bs + a) :: st.map (cv E)))
  refine W.bast hC.ex hC.by (hR.2.2.1 a _ ha) ((hC.kk.2 1 _ (zTy E (t := 1) (by decide))).1 z (fun j => .int (Int32.ofInt (σ.I a j)))) (fun q => by cases q) (by show ¬ (_ < 0 ∨ (arrV _ _ _).slots.size ≤ _); rw [arrV_size]; exact hin) rfl rfl hd fun H1 e1 z1 oq => ?_
  refine h p l e R s m args below meth c n0 s0 σ0 hC H1 _ (hR.wI hn (hT.wI (by rw [hs]; exact sx8_in x)) ?_ z1 oq) (locs_put hlo) hN ls hl
  rw [zct_i (E := E) (σ := σ.wI a i (sx8 x)) hs (by omega), zI_upd (E := E) h0]
  show H1[E.bs + a]? = some (vp_cell _ _)
  rw [← arr_new, e1, i32_cl h0 (by omega), ← i32_8]
  rfl
theorem v_zast {a z : Nat} {i x : Int} (hd : DD M.cc pc 1 pc' .bastore) (hs : σ.sh a = (3, z)) (h0 : 0 ≤ i) (h1 : i < z) (hx : 0 ≤ x ∧ x ≤ 1) (h : VV E M d pc' L st (σ.wI a i (x)) Q) : VV E M d pc L (aI x :: aI i :: aO a :: st) σ Q := by
  obtain ⟨hd, rfl⟩ := hd
  intro p l e R s m args below meth c n0 s0 σ0 hC H locs hR hlo hN ls hl
  have hT := hR.2.2.2
  have hz : z < 2147483648 := by have := hT.2.2.1 a; rw [hs] at this; exact this
  have hn := hT.lt hs (by omega)
  have ha : (zws E σ)[a]? = _ := (zws_at hn).trans (by rw [zct_i hs (by omega)])
  have hin := i32_in h0 h1 hz
  show W _ _ _ _ _ _ _ _ _ _ _ _ _ _ _ (F0 m pc ls (.int (Int32.ofInt x) :: .int (Int32.ofInt i) :: .ref (E.bs + a) :: st.map (cv E)))
  refine W.zast hC.ex hC.by (hR.2.2.1 a _ ha) ((hC.kk.2 3 _ (zTy E (t := 3) (by decide))).1 z (fun j => .int (Int32.ofInt (σ.I a j)))) (fun q => by cases q) (by show ¬ (_ < 0 ∨ (arrV _ _ _).slots.size ≤ _); rw [arrV_size]; exact hin) rfl rfl hd fun H1 e1 z1 oq => ?_
  refine h p l e R s m args below meth c n0 s0 σ0 hC H1 _ (hR.wI hn (hT.wI (by rw [hs]; exact hx)) ?_ z1 oq) (locs_put hlo) hN ls hl
  rw [zct_i (E := E) (σ := σ.wI a i (x)) hs (by omega), zI_upd (E := E) h0]
  show H1[E.bs + a]? = some (vp_cell _ _)
  rw [← arr_new, e1, i32_cl h0 (by omega), narZ hx]
  rfl
theorem v_sast {a z : Nat} {i x : Int} (hd : DD M.cc pc 1 pc' .sastore) (hs : σ.sh a = (2, z)) (h0 : 0 ≤ i) (h1 : i < z) (h : VV E M d pc' L st (σ.wI a i (sx16 x)) Q) : VV E M d pc L (aI x :: aI i :: aO a :: st) σ Q := by
  obtain ⟨hd, rfl⟩ := hd
  intro p l e R s m args below meth c n0 s0 σ0 hC H locs hR hlo hN ls hl
  have hT := hR.2.2.2
  have hz : z < 2147483648 := by have := hT.2.2.1 a; rw [hs] at this; exact this
  have hn := hT.lt hs (by omega)
  have ha : (zws E σ)[a]? = _ := (zws_at hn).trans (by rw [zct_i hs (by omega)])
  have hin := i32_in h0 h1 hz
  show W _ _ _ _ _ _ _ _ _ _ _ _ _ _ _ (F0 m pc ls (.int (Int32.ofInt x) :: .int (Int32.ofInt i) :: .ref (E.bs + a) :: st.map (cv E)))
  refine W.sast hC.ex hC.by (hR.2.2.1 a _ ha) ((hC.kk.2 2 _ (zTy E (t := 2) (by decide))).1 z (fun j => .int (Int32.ofInt (σ.I a j)))) (fun q => by cases q) (by show ¬ (_ < 0 ∨ (arrV _ _ _).slots.size ≤ _); rw [arrV_size]; exact hin) rfl rfl hd fun H1 e1 z1 oq => ?_
  refine h p l e R s m args below meth c n0 s0 σ0 hC H1 _ (hR.wI hn (hT.wI (by rw [hs]; exact sx16_in x)) ?_ z1 oq) (locs_put hlo) hN ls hl
  rw [zct_i (E := E) (σ := σ.wI a i (sx16 x)) hs (by omega), zI_upd (E := E) h0]
  show H1[E.bs + a]? = some (vp_cell _ _)
  rw [← arr_new, e1, i32_cl h0 (by omega), ← i32_16]
  rfl
theorem v_last {a z : Nat} {i x : Int} (hd : DD M.cc pc 1 pc' .lastore) (hs : σ.sh a = (4, z)) (h0 : 0 ≤ i) (h1 : i < z) (hx : inL x) (h : VV E M d pc' L st (σ.wI a i x) Q) : VV E M d pc L (aL x :: aI i :: aO a :: st) σ Q := by
  obtain ⟨hd, rfl⟩ := hd
  intro p l e R s m args below meth c n0 s0 σ0 hC H locs hR hlo hN ls hl
  have hT := hR.2.2.2
  have hz : z < 2147483648 := by have := hT.2.2.1 a; rw [hs] at this; exact this
  have hn := hT.lt hs (by omega)
  have ha : (zws E σ)[a]? = _ := (zws_at hn).trans (by rw [zct_l hs])
  have hin := i32_in h0 h1 hz
  show W _ _ _ _ _ _ _ _ _ _ _ _ _ _ _ (F0 m pc ls (.long (Int64.ofInt x) :: .int (Int32.ofInt i) :: .ref (E.bs + a) :: st.map (cv E)))
  refine W.last hC.ex hC.by (hR.2.2.1 a _ ha) ((hC.kk.2 4 _ (zTy E (t := 4) (by decide))).1 z (fun j => .long (Int64.ofInt (σ.I a j)))) (fun q => by cases q) (by show ¬ (_ < 0 ∨ (arrV _ _ _).slots.size ≤ _); rw [arrV_size]; exact hin) rfl rfl hd fun H1 e1 z1 oq => ?_
  refine h p l e R s m args below meth c n0 s0 σ0 hC H1 _ (hR.wI hn (hT.wI (by rw [hs]; exact hx)) ?_ z1 oq) (locs_put hlo) hN ls hl
  rw [zct_l (E := E) (σ := σ.wI a i x) hs, zL_upd (E := E) h0]
  show H1[E.bs + a]? = some (vp_cell _ _)
  rw [← arr_newL, e1, i32_cl h0 (by omega)]
  rfl
theorem v_alen {a t z : Nat} (hd : DD M.cc pc 1 pc' .arraylength) (hs : σ.sh a = (t, z)) (ht : t < 8) (h : VV E M d pc' L (aI z :: st) σ Q) : VV E M d pc L (aO a :: st) σ Q := by
  obtain ⟨hd, rfl⟩ := hd
  intro p l e R s m args below meth c n0 s0 σ0 hC H locs hR hlo hN ls hl
  have hT := hR.2.2.2
  have hn := hT.lt hs (by omega)
  have hc : zct E σ a = .inl (E.tc t, z, zarr E σ a t) := by rw [zct, hs]; exact if_pos (by omega)
  have ha : (zws E σ)[a]? = _ := (zws_at hn).trans (by rw [hc])
  refine va_alen hC.ex hC.by hC.kk hR.2.2.1 a t ha (zTy E ht) (v := Int32.ofInt z) Int32.ofInt_eq_ofNat.symm hd ?_
  exact h p l e R s m args below meth c n0 s0 σ0 hC H locs hR hlo hN ls hl
end VMEM
