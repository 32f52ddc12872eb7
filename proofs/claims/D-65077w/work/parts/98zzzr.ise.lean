/-! contracts: printed by tools/mk.py out of s98zzzr_ise.py -/
set_option maxRecDepth 100000
set_option maxHeartbeats 1200000
/-! new IllegalStateException("stopped"): the model's constructor -/
/-- a cell just made of class IllegalStateException -/
def BLG (E : XE) (b : Nat) (s : State) (H : Heap) : Prop := ∃ kX : Class, s.vm.classes[E.D.1 13]? = some kX ∧ H[E.bs + b]? = some (blank (E.D.1 13) kX)
/-- the judgement, with such a cell in sight -/
def VVg (bb : Nat) (E : XE) (M : MI) (d pc : Nat) (L : List (Nat × AV)) (st : List AV) (σ : Sto) (Q : Res → Sto → Prop) : Prop :=
  ∀ (p : Program) (l : LN) (e : Env) (R : Room) (s : State) (m : MethodId) (args : Array Value) (below : List Frame) (meth : Method) (c : Code) (n0 s0 : Nat) (σ0 : Sto), Cy E M d n0 s0 p R s m meth c →
    ∀ (H : Heap) (locs : List Loc), Rel E σ H → BLG E bb s H → (∀ q ∈ locs, XA E q.base) → Nx n0 s0 σ0 σ → ∀ ls : Array Slot, lv_has ls M.nL (L.map (cvL E)) →
      W p l.1 e R s m args below meth c H locs (σ.n - n0) (ssum σ - s0) (ZQ E below s n0 s0 σ0 Q) (F0 m pc ls (st.map (cv E)))
section VVGR
variable {bb : Nat} {E : XE} {M : MI} {d pc pc' : Nat} {L : List (Nat × AV)} {st : List AV} {σ : Sto} {Q : Res → Sto → Prop}
theorem vg_dup {v : AV} (hd : DD M.cc pc 1 pc' .dup) (hc : acat v = 1) (h : VVg bb E M d pc' L (v :: v :: st) σ Q) : VVg bb E M d pc L (v :: st) σ Q := by
  obtain ⟨hd, rfl⟩ := hd
  intro p l e R s m args below meth c n0 s0 σ0 hC H locs hR hB hlo hN ls hl
  refine lv_dup hC.ex hC.by hd (by rw [← cv_cat E] at hc; exact hc) ?_
  exact h p l e R s m args below meth c n0 s0 σ0 hC H locs hR hB hlo hN ls hl
theorem vg_ldcS {index i : Nat} {tx : String} (hd : DD M.cc pc 2 pc' (.ldc index)) (hs : strR[i]? = some (M.y.cls, index, tx)) (h : VVg bb E M d pc' L (aS i :: st) σ Q) : VVg bb E M d pc L st σ Q := by
  obtain ⟨hd, rfl⟩ := hd
  intro p l e R s m args below meth c n0 s0 σ0 hC H locs hR hB hlo hN ls hl
  exact va_ldcS hC.ex hC.by hC.own (hC.sx.1 i _ hs) hd (h p l e R s m args below meth c n0 s0 σ0 hC H locs hR hB hlo hN ls hl)
theorem v_newg {index : Nat} (hd : DD M.cc pc 3 pc' (.new index)) (hcl : Cond.classLink M.y.cls index "java/lang/IllegalStateException" ∈ lw_all) (hk1 : σ.n + 1 ≤ NC) (hn1 : ssum σ + 6 ≤ NS) (h : SF σ (σ.al 113 6) → VVg σ.n E M d pc' L (aO σ.n :: st) (σ.al 113 6) Q) : VV E M d pc L st σ Q := by
  obtain ⟨hd, rfl⟩ := hd
  have hq : clT[13]? = some (("java/lang/IllegalStateException", TXF, 0), fun _ => .int) := rfl
  intro p l e R s m args below meth c n0 s0 σ0 hC H locs hR hlo hN ls hl
  have hw := hC.wd
  have ok := cl_ok hq
  have hKn := hC.kk.1 13 _ (cl_V hq)
  refine W.newcK hC.ex hC.by hC.own (hw _ hcl args) (hw _ q2192 args) (hw _ q266 args) rfl hd (by have := hC.nc; have := hN.1; omega) (by have := hC.nS; have := hN.2.1; omega) hKn.2.1 hR.1 fun H1 kC hkC e1 z1 o1 => ?_
  have hT : TI (σ.al 113 6) := hR.2.2.2.al (Or.inr (by omega)) (by have e9 : NS = 6917491 := rfl; omega) hk1 hn1
  have hn0 := hN.1
  have hs0 := hN.2.1
  have c1 : σ.n - n0 + 1 = (σ.al 113 6).n - n0 := by show _ = σ.n + 1 - n0; omega
  have c2 : ssum σ - s0 + 6 = ssum (σ.al 113 6) - s0 := by rw [ssum_al]; omega
  rw [c1, c2]
  refine h (Nx.al (n0 := σ.n) (s0 := ssum σ) ⟨Nat.le_refl _, Nat.le_refl _, SF.rf⟩ hR.2.2.2).2.2 p l e R s m args below meth c n0 s0 σ0 hC H1 locs (hR.al hT (by rw [z1, hR.1]) (fun x hx => o1 x (by rw [← hR.1]; exact hx)) ?_) ⟨kC, hkC, e1⟩ hlo (hN.al hR.2.2.2) ls hl
  have hs : (σ.al 113 6).sh σ.n = (100 + 13, 6) := if_pos rfl
  rw [zct_o hs]
  exact ⟨_, cl_V hq, t_OB.to (u_born (fun _ => .int) (fun w h => hw w h args) ok.1 hKn hkC e1 ok.2.1) (fun kf hkf => absurd hkf (Nat.not_lt_zero _))⟩
theorem chainS_atoms {E : XE} {d n0 s0 : Nat} {p : Program} {R : Room} {s : State} {m : MethodId} {meth : Method} {c : Code} (hC : Cy E M d n0 s0 p R s m meth c) (args : Array Value) : ∀ x ∈ Bundle.chainSAtoms "java/lang/IllegalStateException" ["java/lang/RuntimeException", "java/lang/Exception"], x.before args s = true := by
  have hw := hC.wd
  intro x hx
  simp only [Bundle.chainSAtoms, Bundle.passSAtoms, List.mem_append, List.mem_cons, List.not_mem_nil, or_false] at hx
  rcases hx with (rfl | rfl | rfl | rfl | rfl) | (rfl | rfl | rfl | rfl | rfl) | (rfl | rfl | rfl | rfl | rfl)
  · exact hw _ q2202 args
  · exact hw _ q2203 args
  · exact hw _ q2204 args
  · exact hw _ q2205 args
  · exact va_Nw.use rfl (hC.ns _ (nst_in q1563 rfl))
  · exact hw _ q2205 args
  · exact hw _ q2206 args
  · exact hw _ q2207 args
  · exact hw _ q2208 args
  · exact va_Nw.use rfl (hC.ns _ (nst_in q1565 rfl))
  · exact hw _ q2208 args
  · exact hw _ q2209 args
  · exact hw _ q2210 args
  · exact hw _ q2211 args
  · exact va_Nw.use rfl (hC.ns _ (nst_in q1567 rfl))
theorem thrS_atoms {E : XE} {d n0 s0 : Nat} {p : Program} {R : Room} {s : State} {m : MethodId} {meth : Method} {c : Code} (hC : Cy E M d n0 s0 p R s m meth c) (args : Array Value) : ∀ x ∈ Bundle.throwableSAtoms, x.before args s = true := by
  have hw := hC.wd
  intro x hx
  simp only [Bundle.throwableSAtoms, List.mem_cons, List.not_mem_nil, or_false] at hx
  rcases hx with rfl | rfl | rfl | rfl
  · exact hw _ q2211 args
  · exact hw _ q2212 args
  · exact hw _ q1612 args
  · exact hw _ q1577 args
/-- the constructor of IllegalStateException with a text on a cell just made -/
theorem vg_superS {b z i : Nat} (hd : DD M.cc pc 3 pc' (.invokespecial 15)) (hy : M.y.cls = "SearchHouseModel") (hs : σ.sh b = (113, z)) (hd6 : 6 ≤ d) (hst : awords st ≤ 20) (h : VV E M d pc' L st σ Q) : VVg b E M d pc L (aS i :: aO b :: st) σ Q := by
  obtain ⟨hd, rfl⟩ := hd
  intro p l e R s m args below meth c n0 s0 σ0 hC H locs hR hB hlo hN ls hl T hT X
  subst hT
  have hw := hC.wd
  obtain ⟨kX, hkX, hcell⟩ := hB
  have howns : e.platform.frameOwnsMonitors = true := by rw [X.admits.platform]
  have hfin : e.platform.finalization = false := by rw [X.admits.platform]
  have hpl : e.platform.magicAccessors = ({} : Platform).magicAccessors := by rw [X.admits.platform]
  have htr : e.platform.stackTraces = false := by rw [X.admits.platform]; exact l.2
  have hq : clT[13]? = some (("java/lang/IllegalStateException", TXF, 0), fun _ => .int) := rfl
  have ok := cl_ok hq
  obtain ⟨hS, hfound, kC, hkC, hord⟩ := hC.kk.1 13 _ (cl_V hq)
  have hfound : s.vm.findClass "java/lang/IllegalStateException" = some (E.D.1 13) := hfound
  cases Option.some.inj (hkC.symm.trans hkX)
  obtain ⟨Th, Z0, Lk, -, Y⟩ := ThrowableC.of_atoms (args := args) howns hfin hpl (thr_atoms hC hR X.same args)
  obtain ⟨Z, Mg, LZ, LM, hnZ⟩ := Init0T.ofS_atoms (args := args) hpl Lk Y (thrS_atoms hC args)
  obtain ⟨P1, Ps, hlen, L1, hL, hP1m, hlink1, hlink⟩ := Bundle.chainS (args := args) hpl hnZ ["java/lang/RuntimeException", "java/lang/Exception"] "java/lang/IllegalStateException" (by decide +kernel) (by decide +kernel) (chainS_atoms hC args)
  have hsel0 : selectMethod e.platform s.vm (E.D.1 13) Th.fill0 = .method Th.fill0 := by
    obtain ⟨c2, r2, m2, q1, q2, q3, q4, -⟩ := Cond.selects_spec (hw _ q2194 args)
    cases Option.some.inj (q1.symm.trans hfound)
    cases Option.some.inj (q2.symm.trans (State.methodFound?_of_named Y.fill0 (by decide)))
    cases Option.some.inj (q3.symm.trans Y.fill0)
    rw [Launch.admits_selectMethod X.admits]; exact q4
  have hselF : selectMethod e.platform s.vm (E.D.1 13) Th.fill = .method Th.fill := by
    obtain ⟨c2, r2, m2, q1, q2, q3, q4, -⟩ := Cond.selects_spec (hw _ q1592 args)
    cases Option.some.inj (q1.symm.trans hfound)
    cases Option.some.inj (q2.symm.trans (State.methodFound?_of_named Y.fill (by decide)))
    cases Option.some.inj (q3.symm.trans Y.fill)
    rw [Launch.admits_selectMethod X.admits]; exact q4
  obtain ⟨v1, hv1, cf1, kf1, fi1, f1, a1, cellS, u0, u1, u2, u3, u4, u5, u6, u7, u8, u9, u10⟩ := hC.sx.2.2.2.2.2.1
  obtain ⟨v2, hv2, cf2, kf2, fi2, f2, a2, cell2, w0, w1, w2, w3, w4, w5, w6, w7, w8, w9, w10⟩ := hC.sx.2.2.2.2.2.2
  have e1 := Option.some.inj (u1.symm.trans Y.unassigned)
  simp only [Prod.mk.injEq] at e1
  obtain ⟨rfl, rfl, rfl, rfl⟩ := e1
  have e2 := Option.some.inj (w1.symm.trans Y.sentinel)
  simp only [Prod.mk.injEq] at e2
  obtain ⟨-, rfl, rfl, rfl⟩ := e2
  cases Option.some.inj (u3.symm.trans Lk.statics)
  cases Option.some.inj (w3.symm.trans Lk.statics)
  cases Option.some.inj (u4.symm.trans w4)
  have hlt : Th.aS < E.bs := Nat.lt_of_not_le u10
  have hcellS : T.heap[Th.aS]? = some cellS := (hR.2.1 _ hlt).trans u4
  have hknownS : cellS.vm ≠ .unknown := by intro hu; rw [hu] at u5; cases u5
  have hneS : Th.aS ≠ E.bs + b := Nat.ne_of_lt (Nat.lt_of_lt_of_le hlt (Nat.le_add_right _ _))
  obtain ⟨ci198, i198, fB, hk198, hg198, ha198, hsB, -, hnB, htB, hffB⟩ := Cond.ownField (t := .object "java/lang/Object") Y.found Lk.cls (by decide +kernel) (hw _ q1580 args) (hw _ q1579 args) e.platform hpl
  obtain ⟨tyC, dC, hdC, hdnC⟩ := Cond.laysAt hfound hkX Y.cause (hw _ q2195 args)
  obtain ⟨tyS, dS, hdS, hdnS⟩ := Cond.laysAt hfound hkX Y.stack (hw _ q2196 args)
  obtain ⟨tyP, dP, hdP, hdnP⟩ := Cond.laysAt hfound hkX Y.supp (hw _ q2197 args)
  obtain ⟨tyB, dB, hdB, hdnB⟩ := Cond.laysAt hfound hkX hffB (hw _ q2199 args)
  obtain ⟨iM, hffM⟩ := Y.msg
  obtain ⟨tyM, dM, hdM, hdnM⟩ := Cond.laysAt hfound hkX hffM (hw _ q2198 args)
  have bC := Cond.laysApart hdB hdC hdnB hdnC (by rw [hnB, Y.causeName]; decide)
  have bS := Cond.laysApart hdB hdS hdnB hdnS (by rw [hnB, Y.stackName]; decide)
  have bP := Cond.laysApart hdB hdP hdnB hdnP (by rw [hnB, Y.suppName]; decide)
  have hskip : SkipFacts Th e.platform s (fun u => u) ⟨v1, hv1⟩ ((preparedCellV Th.toThrowableT (freshCell (E.D.1 13) kX) (E.bs + b) ⟨v1, hv1⟩ ⟨v2, hv2⟩).withEntry T.cur) :=
    ⟨{ ci198 := ci198, i198 := i198, fBack := fB }, ⟨hk198, hg198, ha198, hsB⟩, by
      have := fresh_default (c := E.D.1 13) tyB
      rw [htB] at this
      simpa [preparedCellV, Cell.setSlot, Cell.withEntry, Array.getElem?_setIfInBounds, bC, bS, bP, bC.symm, bS.symm, bP.symm, defaultValue] using this, fun _ _ => rfl⟩
  have hown : s.vm.findClass "SearchHouseModel" = some m.cls := by rw [← hy]; exact hC.own
  obtain ⟨tm, methC, cdC, kC, vm₁, hnC, -, -, -, -, -, -, -, hW₁, st1⟩ := Steps.initColdS (tb := p.tables) (e := e) (below := below) (s := s) (U := T) X.here hC.ex X.warmed hpl hown (t := Bundle.initS "java/lang/IllegalStateException") rfl rfl (by decide +kernel)
    (hw _ q2201 args) (hw _ q2202 args) (bytes := Bundle.six) (maxL := 2) (hw _ q2203 args)
    (f := F0 m pc ls ((aS i :: aO b :: st).map (cv E))) rfl (a := E.bs + b) (msg := .ref (E.sa i)) (rest := st.map (cv E)) rfl (by rw [hC.by]; exact hd)
  cases Option.some.inj (hnC.symm.trans hP1m)
  have X₁ := X.noted hW₁
  have hsum : ((st.map (cv E)).map fun v => v.category).sum = awords st := by
    clear hst st1 hl h
    induction st with
    | nil => rfl
    | cons v vs ih => simp only [List.map_cons, List.sum_cons, awords, cv_cat] at ih ⊢; omega
  have hfr := hC.fr
  have hloc := hC.lo
  obtain ⟨vm₂, X₂, st2⟩ := X₁.ctorMessageOffV hC.ex (g := F0 m pc ls (st.map (cv E))) rfl (by rw [hC.ml]; exact hl.1) Th Lk Z LZ Mg LM (P1 :: Ps)
    (fun P hP => by rcases List.mem_cons.mp hP with rfl | hP; exact L1; exact hL P hP) ⟨hlink1, hlink⟩ (u0 := ⟨v1, hv1⟩) (sen := ⟨v2, hv2⟩) (self := E.bs + b) (msg := .ref (E.sa i)) rfl (cell := freshCell (E.D.1 13) kX) (cellS := cellS)
    hcell (fun _ => by simp) (by simp) rfl rfl hsel0 hselF hcellS hneS hknownS u9 w9
    (Takes.of_laid hkX hord tyC (by rw [Y.causeType]; rfl)) (Takes.of_laid hkX hord tyS (by rw [Y.stackType]; exact fits_refV_array _ ⟨v1, hv1⟩)) (Takes.of_laid hkX hord tyP (by rw [Y.suppType]; exact fits_refV_object _ ⟨v2, hv2⟩)) (Takes.of_laid hkX hord tyM (by rw [Y.msgType]; exact fits_refV_object _ ⟨.ref (E.sa i), rfl⟩)) Y.objLocals hskip htr [] (by rw [hC.by]; exact hd)
    (by simp only [List.length_cons, hlen]; simp only [List.length_nil]; omega) (by simp only [List.length_cons, hlen, List.length_nil]; show 2 * 0 + ((st.map (cv E)).map fun v => v.category).sum + _ ≤ _; rw [hsum]; omega)
  have hbn : b < σ.n := hR.2.2.2.lt hs (by omega)
  have hbT : E.bs + b < T.heap.size := by rw [hR.1]; omega
  have hva : va_at E.D clV (E.bs + b, zct E σ b) (T.heap.setIfInBounds (E.bs + b) (plainBareV Th.toThrowableT (freshCell (E.D.1 13) kX) (E.bs + b) ⟨v1, hv1⟩ ⟨v2, hv2⟩ (.ref (E.sa i)))) := by
    have he : (zws E σ)[b]? = _ := (zws_at hbn).trans (by rw [zct_o (ci := 13) hs])
    obtain ⟨r, h1, cell, q1, q2, q3, q4⟩ := hR.2.2.1 b _ he
    cases Option.some.inj (h1.symm.trans (cl_V hq))
    cases Option.some.inj (q1.symm.trans hcell)
    rw [zct_o (ci := 13) hs]
    refine ⟨_, cl_V hq, _, Array.getElem?_setIfInBounds_self_of_lt hbT, rfl, rfl, fun k hk => absurd hk (Nat.not_lt_zero _)⟩
  have hlo4 : ∀ q ∈ [(⟨E.bs + b, Th.fCause.slot⟩ : Loc), ⟨E.bs + b, Th.fStack.slot⟩, ⟨E.bs + b, Th.fSupp.slot⟩, ⟨E.bs + b, Th.fStack.slot⟩, ⟨E.bs + b, Th.fMsg.slot⟩], XA E q.base := by
    intro q hq
    simp only [List.mem_cons, List.not_mem_nil, or_false] at hq
    rcases hq with rfl | rfl | rfl | rfl | rfl <;> exact Nat.le_add_right _ _
  obtain ⟨t, b1, b2⟩ := h p l e R s m args below meth c n0 s0 σ0 hC _ _ (hR.same (a := b) (H1 := (T.heap.setIfInBounds (E.bs + b) (plainBareV Th.toThrowableT (freshCell (E.D.1 13) kX) (E.bs + b) ⟨v1, hv1⟩ ⟨v2, hv2⟩ (.ref (E.sa i))))) hbn hva (by simp) (fun q hq => by rw [Array.getElem?_setIfInBounds_ne (Ne.symm hq)])) (t_lL hlo hlo4) hN ls hl _ rfl X₂
  exact ⟨t, st1 _ (fun acts => by rw [doInvoke_state]; exact st2 _ b1), b2⟩
/-- new IllegalStateException("stopped") in the model's constructor -/
theorem v_ise {L : List (Nat × AV)} {st : List AV} {σ : Sto} {Q : Res → Sto → Prop} {d : Nat} (h6 : 6 ≤ d) (hst : awords st ≤ 19) (hk1 : σ.n + 1 ≤ NC) (hn1 : ssum σ + 6 ≤ NS) (h : VV E mX9_init d 14 L (aO σ.n :: st) (σ.al 113 6) Q) : VV E mX9_init d 5 L st σ Q := by
  refine v_newg (pc' := 8) ⟨by decide +kernel, rfl⟩ q2191 hk1 hn1 (fun _ => ?_)
  refine vg_dup (pc' := 9) ⟨by decide +kernel, rfl⟩ rfl ?_
  refine vg_ldcS (pc' := 11) (i := 18) (index := 13) (tx := "stopped") ⟨by decide +kernel, rfl⟩ (by decide +kernel) ?_
  exact vg_superS (pc' := 14) (z := 6) ⟨by decide +kernel, rfl⟩ rfl (if_pos rfl) h6 (by simp only [awords, acat]; omega) h
end VVGR

