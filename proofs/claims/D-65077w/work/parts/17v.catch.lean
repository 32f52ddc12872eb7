/-! a handler of the method's own: the table has one entry -/
section CATCH
variable {p : Program} {l : Launch} {e : Env} {R : Room} {s : State} {m : MethodId} {args : Array Value} {below : List Frame} {meth : Method} {c : Code} {T : State} {locs : List Loc} {cells slots : Nat}
/-- the search in a table of one entry, whose class is noted by it -/
theorem z_find {u : State} {g : JFrame} {a : Addr} {x : ExceptionTableEntry} {cT : ClassId} {cell : Cell} {mt : Method} {cd : Code} (hm : u.vm.method? g.method = some mt) (hc : mt.code = some cd) (ht : cd.exceptionTable.toList = [x]) (hx : covers x g.pc = true) (h0 : x.catchType ≠ 0)
    (hl : u.vm.ClassLinks e.platform g.method.cls x.catchType cT) (hcell : u.heap[a]? = some cell) (hobj : ∀ k, cell.vm ≠ .statics k) (hk : ∃ k, u.vm.classes[cell.cls]? = some k) (hcT : ∃ k, u.vm.classes[cT]? = some k) (hfit : u.vm.assignable cell.cls cT = true)
    {Q : Handler → Pre} {E : CtlPost} {d : Bool} {acts : List Action} : wp (findHandler g a) Q E e d acts u ↔ Q (.found x.handlerPc) d acts (u.setVm (u.vm.noted g.method.cls x.catchType (.cls cT))) := by
  rw [W.findHandler_eq hm hc, ht]
  have al : u.vm.Alike (u.vm.noted g.method.cls x.catchType (.cls cT)) := (Vm.Alike.refl u.vm).noted _ _ _
  obtain ⟨j1, q1⟩ := hk
  obtain ⟨j2, q2⟩ := hcT
  obtain ⟨i1, r1, -⟩ := al.2.2 _ _ q1
  obtain ⟨i2, r2, -⟩ := al.2.2 _ _ q2
  have f2 := hfit
  rw [← al.assignable] at f2
  obtain ⟨o1, o2⟩ := (resolveClass_links e.toSetting hl).op (op := VmOp.resolveClass g.method.cls x.catchType) rfl
  unfold covers at hx
  simp [findHandler.go, hx, h0, o1, o2, hcell, hobj, r1, r2, f2, VmOp.dirties, VmOp.acts]
theorem z_caught (X : Stand p l e R s m args below meth c T locs cells slots) {g : JFrame} (hg : g.method = m) {own nm : String} (hown : s.vm.findClass own = some m.cls) {x : ExceptionTableEntry} (ht : c.exceptionTable.toList = [x]) (hx : covers x g.pc = true) (h0 : x.catchType ≠ 0)
    (hlink : (Cond.classLink own x.catchType nm).before args s = true) {cT : ClassId} {cell : Cell} (hcT : s.vm.findClass nm = some cT) (a : Addr) (hcell : T.heap[a]? = some cell) (hobj : cell.vm.isStatics = false) (hfit : s.vm.assignable cell.cls cT = true) :
    ∃ vm', Stand p l e R s m args below meth c (T.setVm vm') locs cells slots ∧ ∀ target, Steps p.tables e below ((T.setVm vm').setTop { g with pc := x.handlerPc, stack := [.ref a] }) target → Steps p.tables e below ((T.setTop g).pushFrame (.throwing a)) target := by
  obtain ⟨cU, hU, hcl⟩ := Cond.classLink_spec hown hlink e.platform (by rw [X.admits.platform])
  cases hcT.symm.trans hU
  obtain ⟨dk, _, _, kt, hd, _, _, _, _, hkt, _, hopen⟩ := hcl.here
  have al := X.warmed.alike
  obtain ⟨kt', hkt', -⟩ := al.2.2 _ _ hkt
  have fT : T.vm.assignable cell.cls cT = true := by rw [al.assignable]; exact hfit
  refine ⟨T.vm.noted m.cls x.catchType (.cls cT), X.noted (X.warmed.noted hd hopen (State.rightAt_cls hcl)), fun target hrest => ?_⟩
  subst hg
  obtain ⟨hgo, hw⟩ := X.here.throwing a
  refine Steps.head hgo hw ?_
  obtain ⟨g0, hg0⟩ := Option.isSome_iff_exists.mp X.here.top
  obtain ⟨r, hr⟩ := State.topJava?_eq_some.mp hg0
  have key : (stepThrowing e ((T.setTop g).pushFrame (.throwing a)) a (.java g :: r)).1 = ((((T.setTop g).pushFrame (.throwing a)).setVm (T.vm.noted g.method.cls x.catchType (.cls cT))).setFrames (.java { g with pc := x.handlerPc, stack := [.ref a] } :: r)) := by
    simp only [stepThrowing, searchFrame, vmDo]
    generalize hres : Sem.go _ e false [] ((T.setTop g).pushFrame (.throwing a)) = res
    obtain ⟨as, rfl, -⟩ := Sem.eq_ok_of hres (a := Handler.found x.handlerPc) (s' := ((T.setTop g).pushFrame (.throwing a)).setVm (T.vm.noted g.method.cls x.catchType (.cls cT))) (acts' := []) (by
      simp [z_find (e := e) (u := (T.setTop g).pushFrame (.throwing a)) (g := g) (a := a) (x := x) (cT := cT) (cell := cell) (mt := meth) (cd := c) X.method' X.code ht hx h0 (X.warmed.classLinks hcl) hcell (VmData.ne_statics_of hobj) (Vm.classAt_of_assignable fT ⟨kt', hkt'⟩) ⟨kt', hkt'⟩ fT]
      rfl)
    rfl
  rw [stepThread_throwing (frames_entered X.here.top _), hr, List.tail_cons, key]
  have hr' : (T.setVm (T.vm.noted g.method.cls x.catchType (.cls cT))).frames = .java g0 :: r := hr
  rw [State.setTop_of_frames _ hr'] at hrest
  have e1 : ∀ (u : State) (F H : List Frame) (v : Vm), ((u.setFrames F).setVm v).setFrames H = (u.setVm v).setFrames H := fun u F H v => by
    have e0 : (u.setFrames F).setVm v = (u.setVm v).setFrames F := rfl
    rw [e0, State.setFrames_setFrames]
  rw [State.pushFrame, State.setTop_of_frames _ hr, State.setFrames_setFrames, e1]
  exact hrest
end CATCH
section VCATCH
variable {E : XE} {M M' : MI} {d d' n0 s0 pc pc' : Nat} {L : List (Nat × AV)} {st stk as : List AV} {σ : Sto} {Q Q' : Res → Sto → Prop}
/-- a call in the range of the method's one handler -/
theorem z_goH {p : Program} {l : LN} {e : Env} {R : Room} {s : State} {m : MethodId} {args : Array Value} {below : List Frame} {meth : Method} {c : Code} {T : State} {locs : List Loc} {ls : Array Slot} (hC : Cy E M d n0 s0 p R s m meth c)
    (X : Stand p l.1 e R s m args below meth c T locs (σ.n - n0) (ssum σ - s0)) (hR : Rel E σ T.heap) (hlo : ∀ q ∈ locs, XA E q.base) {σ0 : Sto} (hN : Nx n0 s0 σ0 σ) (hl : lv_has ls M.nL (L.map (cvL E))) {ig : Instr} (hd : decode M.cc pc = .ok (ig, 3))
    (hM : Mok M') {mk : MethodId} (hmk : T.methodNamed? M'.y = some mk) (hcc : CC E M' d' as σ Q') (hfit : awords as ≤ M'.nL) (hdd : d' + 1 ≤ d) (hst : awords st + (M'.nL + 11) ≤ 100)
    {h1 h2 hp ct ci : Nat} {q : QC} {nm : String} (hh : M.hh = [(h1, h2, hp, ct)]) (hin : h1 ≤ pc ∧ pc < h2) (hct : ct ≠ 0) (hq : clT[ci]? = some q) (hlink : Cond.classLink M.y.cls ct nm ∈ lw_all) (hcast : Cond.castable q.1.1 nm ∈ lw_tbl)
    (hret : ∀ v σ', Q' (.inl v) σ' → SF σ σ' → VV E M d (pc + 3) L (v.toList ++ st) σ' Q) (hthr : ∀ a σ', Q' (.inr a) σ' → SF σ σ' → (∃ z, σ'.sh a = (100 + ci, z)) ∧ VV E M d hp L [aO a] σ' Q) :
    ∃ t, Steps p.tables e below (doInvoke e (T.setTop (F0 m pc ls (st.map (cv E)))) [] mk (as.map (cv E)).toArray).1 t ∧ ZQ E below s n0 s0 σ0 Q t := by
  have hsum : ((st.map (cv E)).map fun v => v.category).sum = awords st := by
    clear hst hret hthr
    induction st with
    | nil => rfl
    | cons v vs ih => simp only [List.map_cons, List.sum_cons, awords, cv_cat] at ih ⊢; omega
  obtain ⟨t, r, σ', T', Ls, g1, g2, g3, g4, g5, hN', hSF, g6⟩ := z_call hC X hR hN (g := F0 m pc ls (st.map (cv E))) rfl (by rw [hC.ml]; exact hl.1) (by rw [hC.by]; exact hd) hM hmk hcc hfit hdd (by show 2 * 0 + _ + _ ≤ 100; rw [hsum]; omega)
  have hlo' : ∀ q ∈ locs ++ Ls, XA E q.base := t_lL hlo g4
  rcases g6 with ⟨v, rfl, ht⟩ | ⟨a, rfl, ht⟩
  · obtain ⟨t2, b1, b2⟩ := hret v σ' g2 hSF p l e R s m args below meth c n0 s0 σ0 hC T'.heap (locs ++ Ls) g5 hlo' hN' ls hl T' rfl g3
    refine ⟨t2, g1.trans ?_, b2⟩
    rw [ht]
    have e1 : (v.map (cv E)).toList ++ st.map (cv E) = (v.toList ++ st).map (cv E) := by cases v <;> simp
    show Steps _ _ _ (T'.setTop (F0 m (pc + 3) ls ((v.map (cv E)).toList ++ st.map (cv E)))) _
    rw [e1]
    exact b1
  · obtain ⟨⟨z, hz⟩, hv⟩ := hthr a σ' g2 hSF
    obtain ⟨cell, hcB, hoB, hclB⟩ := zrecv hC.kk g5 hz hq
    obtain ⟨c3, cT, k3, kT, hasg⟩ := Cond.castable_spec (va_Nw.use (A := args) rfl (hC.ns _ (nst_in hcast rfl)))
    cases hclB.symm.trans k3
    have hex : ∃ x, c.exceptionTable.toList = [x] ∧ (x.startPc, x.endPc, x.handlerPc, x.catchType) = (h1, h2, hp, ct) := by
      have h0 := hC.hh
      rw [hh] at h0
      unfold hhOf at h0
      cases hL : c.exceptionTable.toList with
      | nil => rw [hL] at h0; cases h0
      | cons x rest =>
        rw [hL] at h0
        cases rest with
        | nil => exact ⟨x, rfl, by have := List.cons.inj h0; exact this.1⟩
        | cons y ys => simp at h0
    obtain ⟨x, hx1, hx2⟩ := hex
    have y1 : x.startPc = h1 := congrArg (·.1) hx2
    have y2 : x.endPc = h2 := congrArg (·.2.1) hx2
    have y3 : x.handlerPc = hp := congrArg (·.2.2.1) hx2
    have y4 : x.catchType = ct := congrArg (·.2.2.2) hx2
    obtain ⟨vm', X2, hst2⟩ := z_caught g3 (g := F0 m pc ls (st.map (cv E))) rfl hC.own hx1 (by unfold covers; rw [y1, y2]; simp; exact hin) (by rw [y4]; exact hct) (by rw [y4]; exact hC.wd _ hlink args) kT (E.bs + a) hcB hoB hasg
    obtain ⟨t2, b1, b2⟩ := hv p l e R s m args below meth c n0 s0 σ0 hC T'.heap (locs ++ Ls) g5 hlo' hN' ls hl (T'.setVm vm') rfl X2
    refine ⟨t2, g1.trans ?_, b2⟩
    rw [ht]
    refine hst2 _ ?_
    rw [y3]
    exact b1
theorem v_invVH {index b ci0 z : Nat} {q0 : QC} (hd : DD M.cc pc 3 pc' (.invokevirtual index)) (hstk : stk = as.reverse ++ aO b :: st) (hM : Mok M') (hlink : Cond.methodLink M.y.cls index M'.y ∈ lw_all ∨ ∃ host, Cond.methodLinkNest M.y.cls index M'.y host ∈ lw_tbl) (hinst : Cond.instanceMethod M'.y ∈ lw_all) (hs : σ.sh b = (100 + ci0, z)) (hq0 : clT[ci0]? = some q0) (hsel : Cond.selects q0.1.1 M'.y M'.y ∈ lw_all) (hnp : nPar M' as.length)
    (hcc : CC E M' d' (aO b :: as) σ Q') (hfit : awords (aO b :: as) ≤ M'.nL) (hdd : d' + 1 ≤ d) (hst : awords st + (M'.nL + 11) ≤ 100)
    {h1 h2 hp ct ci : Nat} {q : QC} {nm : String} (hh : M.hh = [(h1, h2, hp, ct)]) (hin : h1 ≤ pc ∧ pc < h2) (hct : ct ≠ 0) (hq : clT[ci]? = some q) (hcl : Cond.classLink M.y.cls ct nm ∈ lw_all) (hcast : Cond.castable q.1.1 nm ∈ lw_tbl)
    (hret : ∀ v σ', Q' (.inl v) σ' → SF σ σ' → VV E M d pc' L (v.toList ++ st) σ' Q) (hthr : ∀ a σ', Q' (.inr a) σ' → SF σ σ' → (∃ z, σ'.sh a = (100 + ci, z)) ∧ VV E M d hp L [aO a] σ' Q) : VV E M d pc L stk σ Q := by
  obtain ⟨hd, rfl⟩ := hd
  subst hstk
  intro p l e R s m args below meth c n0 s0 σ0 hC H locs hR hlo hN ls hl T hT X
  subst hT
  have hw := hC.wd
  have hy := plain_hy hM
  obtain ⟨mk, methM, hnamed, hmethM, hstM, habM⟩ := Cond.instanceMethod_spec (hw _ hinst args)
  obtain ⟨mk', methk, ck, a0, a1, a2, a3, a4, a5, a6, a7, hsigM⟩ := hM.spec hw
  cases hnamed.symm.trans a0
  cases hmethM.symm.trans a1
  obtain ⟨cellB, hcB, hoB, hclB⟩ := zrecv hC.kk hR hs hq0
  obtain ⟨c2, r2, m2, q1, q2, q3, q4, kP, hkP, hkPi⟩ := Cond.selects_spec (hw _ hsel args)
  cases hclB.symm.trans q1
  cases (State.methodFound?_of_named hnamed hy).symm.trans q2
  cases hnamed.symm.trans q3
  have hselP : selectMethod e.platform s.vm cellB.cls mk = .method mk := by rw [Launch.admits_selectMethod X.admits]; exact q4
  have hstack : (F0 m pc ls ((as.reverse ++ aO b :: st).map (cv E))).stack = (as.map (cv E)).reverse ++ .ref (E.bs + b) :: st.map (cv E) := by
    show (as.reverse ++ aO b :: st).map (cv E) = _
    rw [List.map_append, List.map_reverse]; rfl
  have hlen : (as.map (cv E)).length = methM.sig.parameters.length := by rw [List.length_map]; exact hnp _ hsigM
  have key : ∃ vm₁, Stand p l e R s m args below meth c (T.setVm vm₁) locs (σ.n - n0) (ssum σ - s0) ∧ ∀ target, (∀ acts, Steps p.tables e below (doInvoke e ((T.setVm vm₁).setTop (F0 m pc ls (st.map (cv E)))) acts mk (Value.ref (E.bs + b) :: as.map (cv E)).toArray).1 target) → Steps p.tables e below (T.setTop (F0 m pc ls ((as.reverse ++ aO b :: st).map (cv E)))) target := by
    rcases hlink with hlink | ⟨host, hlink⟩
    · obtain ⟨vm₁, X₁, hstep₁⟩ := X.invokevirtual hC.ex hC.own (hw _ hlink args) hnamed hmethM hstM hkP hkPi hy (a := E.bs + b) (cell := cellB) hcB (fun z h => by rw [h] at hoB; cases hoB) hselP hmethM habM hkP hkPi (g := F0 m pc ls ((as.reverse ++ aO b :: st).map (cv E))) rfl (argsL := as.map (cv E)) (rest := st.map (cv E)) hlen hstack (by rw [hC.by]; exact hd)
      exact ⟨vm₁, X₁, hstep₁⟩
    · obtain ⟨vm₁, X₁, hstep₁⟩ := X.invokevirtualNest hC.ex hC.own (va_Nw.use rfl (hC.ns _ (nst_in hlink rfl))) hnamed hmethM hstM hkP hkPi hy (a := E.bs + b) (cell := cellB) hcB (fun z h => by rw [h] at hoB; cases hoB) hselP hmethM habM hkP hkPi (g := F0 m pc ls ((as.reverse ++ aO b :: st).map (cv E))) rfl (argsL := as.map (cv E)) (rest := st.map (cv E)) hlen hstack (by rw [hC.by]; exact hd)
      exact ⟨vm₁, X₁, hstep₁⟩
  obtain ⟨vm₁, X₁, hstep₁⟩ := key
  obtain ⟨t, g1, g2⟩ := z_goH (as := aO b :: as) hC X₁ hR hlo hN hl hd hM (X₁.named hnamed) hcc hfit hdd hst hh hin hct hq hcl hcast hret hthr
  exact ⟨t, hstep₁ _ (fun acts => by rw [doInvoke_state]; exact g1), g2⟩
end VCATCH
