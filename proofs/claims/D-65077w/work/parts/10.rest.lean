/-! ROWS of VV: references, compares of longs, switches, copies, throws, Math -/
def cmp3 (x y : Int) : Int := if y < x then 1 else if x = y then 0 else -1
theorem cmp3_in (x y : Int) : inR (cmp3 x y) := by unfold cmp3 inR; split <;> (try split) <;> omega
theorem lg_cmp3 {x y : Int} (hx : inL x) (hy : inL y) : lg_cmp (Int64.ofInt x) (Int64.ofInt y) = Int32.ofInt (cmp3 x y) := by
  unfold lg_cmp cmp3
  simp only [gt_iff_lt, i64_lt hy hx, i64_eq hx hy]
  split
  · rfl
  · split <;> rfl
/-- from cell a at i on, z places of it to cell b at j on -/
def Sto.cp (σ : Sto) (a : Nat) (i : Int) (b : Nat) (j z : Int) : Sto := (fun c y => if c = b ∧ j ≤ y ∧ y < j + z then σ.I a (i + (y - j)) else σ.I c y, σ.R, σ.sh, σ.n)
theorem TI.cp {σ : Sto} (h : TI σ) {a b t za zb : Nat} {i j z : Int} (ha : σ.sh a = (t, za)) (hb : σ.sh b = (t, zb)) (ht : t < 8) : TI (σ.cp a i b j z) := by
  refine ⟨fun c y => ?_, h.2⟩
  show inT (zty (σ.sh c) y) (if c = b ∧ j ≤ y ∧ y < j + z then _ else _)
  split
  next q =>
    obtain ⟨rfl, -⟩ := q
    have h1 := h.1 a (i + (y - j))
    rw [ha] at h1
    rw [hb]
    unfold zty at h1 ⊢
    rw [if_pos (show t < 100 by omega)] at h1 ⊢
    exact h1
  next => exact h.1 c y
theorem fits_of {ty : FieldType} {x : Int} (h : inT ty x) (ht : ty = .int ∨ ty = .byte ∨ ty = .short ∨ ty = .boolean) : fits ty (.int (Int32.ofInt x)) = true := by
  rcases ht with rfl | rfl | rfl | rfl
  · rfl
  · have h1 : -128 ≤ x ∧ x ≤ 127 := h
    show (decide (-128 ≤ Int32.ofInt x) && decide (Int32.ofInt x ≤ 127)) = true
    rw [show (-128 : Int32) = Int32.ofInt (-128) from rfl, show (127 : Int32) = Int32.ofInt 127 from rfl, decide_eq_true ((i32_le ⟨by omega, by omega⟩ ⟨by omega, by omega⟩).mpr h1.1), decide_eq_true ((i32_le ⟨by omega, by omega⟩ ⟨by omega, by omega⟩).mpr h1.2)]; rfl
  · have h1 : -32768 ≤ x ∧ x ≤ 32767 := h
    show (decide (-32768 ≤ Int32.ofInt x) && decide (Int32.ofInt x ≤ 32767)) = true
    rw [show (-32768 : Int32) = Int32.ofInt (-32768) from rfl, show (32767 : Int32) = Int32.ofInt 32767 from rfl, decide_eq_true ((i32_le ⟨by omega, by omega⟩ ⟨by omega, by omega⟩).mpr h1.1), decide_eq_true ((i32_le ⟨by omega, by omega⟩ ⟨by omega, by omega⟩).mpr h1.2)]; rfl
  · exact fitZ h
theorem cpy_i {σ : Sto} {a b : Nat} {i j z : Int} (hi : 0 ≤ i) (hj : 0 ≤ j) (hz : 0 ≤ z) : (fun y : Nat => Int32.ofInt ((σ.cp a i b j z).I b y)) = va_cpy (fun y : Nat => Int32.ofInt (σ.I a y)) (fun y : Nat => Int32.ofInt (σ.I b y)) i.toNat j.toNat z.toNat := by
  funext y
  show Int32.ofInt (if b = b ∧ j ≤ y ∧ (y : Int) < j + z then _ else _) = if _ then _ else _
  by_cases q : j.toNat ≤ y ∧ y < j.toNat + z.toNat
  · rw [if_pos q, if_pos ⟨rfl, by omega, by omega⟩, show i + ((y : Int) - j) = ((i.toNat + (y - j.toNat) : Nat) : Int) by omega]
  · rw [if_neg q, if_neg (fun w => q ⟨by omega, by omega⟩)]
theorem cpy_l {σ : Sto} {a b : Nat} {i j z : Int} (hi : 0 ≤ i) (hj : 0 ≤ j) (hz : 0 ≤ z) : (fun y : Nat => Int64.ofInt ((σ.cp a i b j z).I b y)) = va_cpy (fun y : Nat => Int64.ofInt (σ.I a y)) (fun y : Nat => Int64.ofInt (σ.I b y)) i.toNat j.toNat z.toNat := by
  funext y
  show Int64.ofInt (if b = b ∧ j ≤ y ∧ (y : Int) < j + z then _ else _) = if _ then _ else _
  by_cases q : j.toNat ≤ y ∧ y < j.toNat + z.toNat
  · rw [if_pos q, if_pos ⟨rfl, by omega, by omega⟩, show i + ((y : Int) - j) = ((i.toNat + (y - j.toNat) : Nat) : Int) by omega]
  · rw [if_neg q, if_neg (fun w => q ⟨by omega, by omega⟩)]
theorem Rel.cp {E : XE} {σ : Sto} {H H1 : Heap} {a b : Nat} {i j z : Int} (hR : Rel E σ H) (hn : b < σ.n) (hT : TI (σ.cp a i b j z)) (he : va_at E.D clV (E.bs + b, zct E (σ.cp a i b j z) b) H1) (hz : H1.size = H.size) (oq : ∀ q : Nat, q ≠ E.bs + b → H1[q]? = H[q]?) : Rel E (σ.cp a i b j z) H1 := by
  refine ⟨by rw [hz, hR.1]; rfl, fun q hq => ?_, ?_, hT⟩
  · rw [oq q (by omega)]; exact hR.2.1 q hq
  · rw [zws_ext (σ := σ) (σ' := σ.cp a i b j z) rfl hn (fun c hc => zct_sh rfl (fun y => if_neg (fun w => hc w.1)) (fun _ => rfl))]
    exact hR.2.2.1.set zD (zws_at hn) he oq
theorem locs_many {E : XE} {locs : List Loc} {b : Nat} {xs : List Nat} {f : Nat → Loc} (h : ∀ q ∈ locs, XA E q.base) (hf : ∀ x, (f x).base = E.bs + b) : ∀ q ∈ locs ++ xs.map f, XA E q.base := by
  intro q hq
  rcases List.mem_append.mp hq with h1 | h1
  · exact h q h1
  · obtain ⟨x, -, rfl⟩ := List.mem_map.mp h1
    show E.bs ≤ (f x).base
    rw [hf]; exact Nat.le_add_right _ _
section VREST
variable {E : XE} {M : MI} {d pc pc' pc2 : Nat} {L L' : List (Nat × AV)} {st : List AV} {σ : Sto} {Q : Res → Sto → Prop}
theorem v_lcmp {x y : Int} (hd : DD M.cc pc 1 pc' .lcmp) (hx : inL x) (hy : inL y) (h : VV E M d pc' L (aI (cmp3 x y) :: st) σ Q) : VV E M d pc L (aL y :: aL x :: st) σ Q := by
  obtain ⟨hd, rfl⟩ := hd
  intro p l e R s m args below meth c n0 s0 σ0 hC H locs hR hlo hN ls hl
  show W _ _ _ _ _ _ _ _ _ _ _ _ _ _ _ (F0 m pc ls (.long (Int64.ofInt y) :: .long (Int64.ofInt x) :: st.map (cv E)))
  refine W.lcmp hC.ex hC.by hd ?_
  rw [lg_cmp3 hx hy]
  exact h p l e R s m args below meth c n0 s0 σ0 hC H locs hR hlo hN ls hl
theorem v_lc_eq {x y off : Int} {tg : Nat} (hd : DD M.cc pc 1 pc' .lcmp) (hd2 : DD M.cc pc' 3 pc2 (.ifCond .eq off)) (ht : (pc' : Int) + off = (tg : Int)) (hx : inL x) (hy : inL y) (h1 : x = y → VV E M d tg L st σ Q) (h2 : x ≠ y → VV E M d pc2 L st σ Q) : VV E M d pc L (aL y :: aL x :: st) σ Q :=
  v_lcmp hd hx hy (v_if_eq hd2 ht (cmp3_in x y) (fun q => h1 (by unfold cmp3 at q; split at q <;> (try split at q) <;> omega)) (fun q => h2 (by unfold cmp3 at q; split at q <;> (try split at q) <;> omega)))
theorem v_lc_ne {x y off : Int} {tg : Nat} (hd : DD M.cc pc 1 pc' .lcmp) (hd2 : DD M.cc pc' 3 pc2 (.ifCond .ne off)) (ht : (pc' : Int) + off = (tg : Int)) (hx : inL x) (hy : inL y) (h1 : x ≠ y → VV E M d tg L st σ Q) (h2 : x = y → VV E M d pc2 L st σ Q) : VV E M d pc L (aL y :: aL x :: st) σ Q :=
  v_lcmp hd hx hy (v_if_ne hd2 ht (cmp3_in x y) (fun q => h1 (by unfold cmp3 at q; split at q <;> (try split at q) <;> omega)) (fun q => h2 (by unfold cmp3 at q; split at q <;> (try split at q) <;> omega)))
theorem v_lc_lt {x y off : Int} {tg : Nat} (hd : DD M.cc pc 1 pc' .lcmp) (hd2 : DD M.cc pc' 3 pc2 (.ifCond .lt off)) (ht : (pc' : Int) + off = (tg : Int)) (hx : inL x) (hy : inL y) (h1 : x < y → VV E M d tg L st σ Q) (h2 : y ≤ x → VV E M d pc2 L st σ Q) : VV E M d pc L (aL y :: aL x :: st) σ Q :=
  v_lcmp hd hx hy (v_if_lt hd2 ht (cmp3_in x y) (fun q => h1 (by unfold cmp3 at q; split at q <;> (try split at q) <;> omega)) (fun q => h2 (by unfold cmp3 at q; split at q <;> (try split at q) <;> omega)))
theorem v_lc_ge {x y off : Int} {tg : Nat} (hd : DD M.cc pc 1 pc' .lcmp) (hd2 : DD M.cc pc' 3 pc2 (.ifCond .ge off)) (ht : (pc' : Int) + off = (tg : Int)) (hx : inL x) (hy : inL y) (h1 : y ≤ x → VV E M d tg L st σ Q) (h2 : x < y → VV E M d pc2 L st σ Q) : VV E M d pc L (aL y :: aL x :: st) σ Q :=
  v_lcmp hd hx hy (v_if_ge hd2 ht (cmp3_in x y) (fun q => h1 (by unfold cmp3 at q; split at q <;> (try split at q) <;> omega)) (fun q => h2 (by unfold cmp3 at q; split at q <;> (try split at q) <;> omega)))
theorem v_lc_gt {x y off : Int} {tg : Nat} (hd : DD M.cc pc 1 pc' .lcmp) (hd2 : DD M.cc pc' 3 pc2 (.ifCond .gt off)) (ht : (pc' : Int) + off = (tg : Int)) (hx : inL x) (hy : inL y) (h1 : y < x → VV E M d tg L st σ Q) (h2 : x ≤ y → VV E M d pc2 L st σ Q) : VV E M d pc L (aL y :: aL x :: st) σ Q :=
  v_lcmp hd hx hy (v_if_gt hd2 ht (cmp3_in x y) (fun q => h1 (by unfold cmp3 at q; split at q <;> (try split at q) <;> omega)) (fun q => h2 (by unfold cmp3 at q; split at q <;> (try split at q) <;> omega)))
theorem v_lc_le {x y off : Int} {tg : Nat} (hd : DD M.cc pc 1 pc' .lcmp) (hd2 : DD M.cc pc' 3 pc2 (.ifCond .le off)) (ht : (pc' : Int) + off = (tg : Int)) (hx : inL x) (hy : inL y) (h1 : x ≤ y → VV E M d tg L st σ Q) (h2 : y < x → VV E M d pc2 L st σ Q) : VV E M d pc L (aL y :: aL x :: st) σ Q :=
  v_lcmp hd hx hy (v_if_le hd2 ht (cmp3_in x y) (fun q => h1 (by unfold cmp3 at q; split at q <;> (try split at q) <;> omega)) (fun q => h2 (by unfold cmp3 at q; split at q <;> (try split at q) <;> omega)))
/-! switches: one value; out of range -/
theorem v_tsw {x v dflt lo hi off : Int} {offs : Array Int} {len tg : Nat} (hd : decode M.cc pc = .ok (.tableswitch dflt lo hi offs, len)) (hx : inR v) (hv : x = v) (h1 : lo ≤ v ∧ v ≤ hi) (ho : offs[(v - lo).toNat]? = some off) (ht : (pc : Int) + off = (tg : Int)) (h : VV E M d tg L st σ Q) : VV E M d pc L (aI x :: st) σ Q := by
  subst hv
  intro p l e R s m args below meth c n0 s0 σ0 hC H locs hR hlo hN ls hl
  show W _ _ _ _ _ _ _ _ _ _ _ _ _ _ _ (F0 m pc ls (.int (Int32.ofInt x) :: st.map (cv E)))
  refine lv_tableIn hC.ex hC.by hd (by rw [i32_to hx]; omega) (by rw [i32_to hx]; omega) (by rw [i32_to hx]; exact ho) ht ?_
  exact h p l e R s m args below meth c n0 s0 σ0 hC H locs hR hlo hN ls hl
theorem v_tswO {x dflt lo hi : Int} {offs : Array Int} {len tg : Nat} (hd : decode M.cc pc = .ok (.tableswitch dflt lo hi offs, len)) (hx : inR x) (h1 : x < lo ∨ hi < x) (ht : (pc : Int) + dflt = (tg : Int)) (h : VV E M d tg L st σ Q) : VV E M d pc L (aI x :: st) σ Q := by
  intro p l e R s m args below meth c n0 s0 σ0 hC H locs hR hlo hN ls hl
  show W _ _ _ _ _ _ _ _ _ _ _ _ _ _ _ (F0 m pc ls (.int (Int32.ofInt x) :: st.map (cv E)))
  refine lv_tableOut hC.ex hC.by hd (by rw [i32_to hx]; exact h1) ht ?_
  exact h p l e R s m args below meth c n0 s0 σ0 hC H locs hR hlo hN ls hl
theorem v_lsw {x dflt off : Int} {ps : Array (Int × Int)} {len tg : Nat} (hd : decode M.cc pc = .ok (.lookupswitch dflt ps, len)) (hx : inR x) (hp : (ps.toList.zip (ps.toList.drop 1)).all (fun (a, next) => a.1 < next.1) = true) (ho : Op.lookupswitch.offset ps.toList dflt x = off) (ht : (pc : Int) + off = (tg : Int)) (h : VV E M d tg L st σ Q) : VV E M d pc L (aI x :: st) σ Q := by
  intro p l e R s m args below meth c n0 s0 σ0 hC H locs hR hlo hN ls hl
  show W _ _ _ _ _ _ _ _ _ _ _ _ _ _ _ (F0 m pc ls (.int (Int32.ofInt x) :: st.map (cv E)))
  refine lv_lookup hC.ex hC.by hd hp (by rw [i32_to hx]; exact ho) ht ?_
  exact h p l e R s m args below meth c n0 s0 σ0 hC H locs hR hlo hN ls hl
/-! references -/
theorem v_anull (hd : DD M.cc pc 1 pc' .aconst_null) (h : VV E M d pc' L (aR none :: st) σ Q) : VV E M d pc L st σ Q := by
  obtain ⟨hd, rfl⟩ := hd
  intro p l e R s m args below meth c n0 s0 σ0 hC H locs hR hlo hN ls hl
  refine lv_null hC.ex hC.by hd ?_
  exact h p l e R s m args below meth c n0 s0 σ0 hC H locs hR hlo hN ls hl
theorem v_ifnonnull {r : Option Nat} {off : Int} {tg : Nat} (hd : DD M.cc pc 3 pc' (.ifnonnull off)) (ht : (pc : Int) + off = (tg : Int)) (h1 : ∀ b, r = some b → VV E M d tg L st σ Q) (h2 : r = none → VV E M d pc' L st σ Q) : VV E M d pc L (aR r :: st) σ Q := by
  obtain ⟨hd, rfl⟩ := hd
  intro p l e R s m args below meth c n0 s0 σ0 hC H locs hR hlo hN ls hl
  cases r with
  | none => exact lv_ifnonnullN hC.ex hC.by hd (h2 rfl p l e R s m args below meth c n0 s0 σ0 hC H locs hR hlo hN ls hl)
  | some b => exact lv_ifnonnull hC.ex hC.by hd ht (h1 b rfl p l e R s m args below meth c n0 s0 σ0 hC H locs hR hlo hN ls hl)
theorem v_aald {a t z : Nat} {i : Int} (hd : DD M.cc pc 1 pc' .aaload) (hs : σ.sh a = (t, z)) (ht : 4 < t ∧ t < 8) (h0 : 0 ≤ i) (h1 : i < z) (h : VV E M d pc' L (aR (σ.R a i) :: st) σ Q) : VV E M d pc L (aI i :: aO a :: st) σ Q := by
  obtain ⟨hd, rfl⟩ := hd
  intro p l e R s m args below meth c n0 s0 σ0 hC H locs hR hlo hN ls hl
  have hT := hR.2.2.2
  have hz : z < 2147483648 := by have := hT.2.2.1 a; rw [hs] at this; exact this
  have ha : (zws E σ)[a]? = _ := (zws_at (hT.lt hs (by omega))).trans (by rw [zct_q hs ht.1 ht.2])
  have hob : ∃ C, aty t = .object C := by
    have : t = 5 ∨ t = 6 ∨ t = 7 := by omega
    rcases this with rfl | rfl | rfl <;> exact ⟨_, rfl⟩
  obtain ⟨C, hCo⟩ := hob
  refine va_aldq hC.ex hC.by hC.kk hR.2.2.1 a t (C := C) ha (by rw [zTy E ht.2, hCo]) (i32_in h0 h1 hz) hd ?_
  rw [i32_cl h0 (by omega), ofNat_ofInt h0]
  have e1 : va_rf ((σ.R a i).map (E.bs + ·)) = cv E (aR (σ.R a i)) := by cases σ.R a i <;> rfl
  rw [e1]
  exact h p l e R s m args below meth c n0 s0 σ0 hC H locs hR hlo hN ls hl
theorem v_aast {a b t z ci zb : Nat} {i : Int} {q : QC} (hd : DD M.cc pc 1 pc' .aastore) (hs : σ.sh a = (t, z)) (ht : 4 < t ∧ t < 8) (h0 : 0 ≤ i) (h1 : i < z) (hb : σ.sh b = (100 + ci, zb)) (hq : clT[ci]? = some q) (hty : aty t = .object q.1.1) (hy : dyn a i ∨ σ.R a i = none) (h : VV E M d pc' L st (σ.wR a i (some b)) Q) : VV E M d pc L (aO b :: aI i :: aO a :: st) σ Q := by
  obtain ⟨hd, rfl⟩ := hd
  intro p l e R s m args below meth c n0 s0 σ0 hC H locs hR hlo hN ls hl
  have hT := hR.2.2.2
  have hz : z < 2147483648 := by have := hT.2.2.1 a; rw [hs] at this; exact this
  have hn := hT.lt hs (by omega)
  have ha : (zws E σ)[a]? = _ := (zws_at hn).trans (by rw [zct_q hs ht.1 ht.2])
  have hv : (zws E σ)[b]? = _ := (zws_at (hT.lt hb (by omega))).trans (by rw [zct_o hb])
  obtain ⟨r', hr', cellV, g1, g2, g3, -⟩ := hR.2.2.1 b _ hv
  have hcls := (hC.kk.1 ci _ (cl_V hq)).2
  have hRA := (hC.kk.2 t _ (zTy E ht.2)).2
  rw [hty] at hRA
  obtain ⟨kA, comp, k1, k2, k3, -⟩ := hRA
  have hcomp : comp = E.D.1 ci := Option.some.inj (k3.symm.trans hcls.1)
  subst hcomp
  obtain ⟨kC, hkC, -⟩ := hcls.2
  have hin := i32_in h0 h1 hz
  have hcl := i32_cl h0 (show i < 2147483648 by omega)
  have hlt : i.toNat < z := by omega
  show W _ _ _ _ _ _ _ _ _ _ _ _ _ _ _ (F0 m pc ls (.ref (E.bs + b) :: .int (Int32.ofInt i) :: .ref (E.bs + a) :: st.map (cv E)))
  refine W.aast hC.ex hC.by (hR.2.2.1 a _ ha) (fun q h => by cases h) (fun h => by cases h) k1 k2 rfl hkC ⟨fun w => hin (Or.inl w), by show _ < (arrV _ _ _).slots.size; rw [arrV_size, hcl]; exact hlt⟩ g1 (fun q h => by rw [g3] at h; cases h) (by rw [g2]; exact hkC) (by rw [g2]; exact va_assign hcls) rfl rfl hd fun H1 e1 z1 oq => ?_
  refine h p l e R s m args below meth c n0 s0 σ0 hC H1 _ (hR.wR hn ?_ z1 oq) (locs_put hlo) (hN.wR hy) ls hl
  rw [zct_q (E := E) (σ := σ.wR a i (some b)) hs ht.1 ht.2]
  show H1[E.bs + a]? = some (vp_cell _ _)
  rw [vp_cell_q, e1, hcl]
  show some ((arrV _ _ _).setSlot _ _) = _
  rw [arrV_store]
  congr 2
  funext y
  by_cases hy : y = i.toNat
  · subst hy
    simp only [updV, if_true]
    show _ = va_rf ((up2 σ.R a i (some b) a ((i.toNat : Nat) : Int)).map _)
    rw [ofNat_ofInt h0, up2_at]; rfl
  · simp only [updV, hy, if_false]
    show _ = va_rf ((up2 σ.R a i (some b) a (y : Int)).map _)
    rw [up2_nj (by omega)]
end VREST
