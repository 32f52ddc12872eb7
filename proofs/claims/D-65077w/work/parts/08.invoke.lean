/-! ROWS of VV: invocations -/
/-- no handler of the method covers pc -/
def noH (M : MI) (pc : Nat) : Prop := ∀ x ∈ M.hh, (decide (x.1 ≤ pc) && decide (pc < x.2.1)) = false
section VINV
variable {E : XE} {M M' : MI} {d d' n0 s0 pc pc' : Nat} {L : List (Nat × AV)} {st stk as : List AV} {σ : Sto} {Q Q' : Res → Sto → Prop}
theorem hout_of {p : Program} {R : Room} {s : State} {m : MethodId} {meth : Method} {c : Code} (hC : Cy E M d n0 s0 p R s m meth c) (h : noH M pc) : ∀ x ∈ c.exceptionTable.toList, covers x pc = false := by
  intro x hx
  have h1 : (x.startPc, x.endPc, x.handlerPc, x.catchType) ∈ M.hh := by
    rw [← hC.hh]
    exact List.mem_map.mpr ⟨x, hx, rfl⟩
  exact h _ h1
theorem z_go {p : Program} {l : LN} {e : Env} {R : Room} {s : State} {m : MethodId} {args : Array Value} {below : List Frame} {meth : Method} {c : Code} {T : State} {locs : List Loc} {ls : Array Slot} (hC : Cy E M d n0 s0 p R s m meth c)
    (X : Stand p l.1 e R s m args below meth c T locs (σ.n - n0) (ssum σ - s0)) (hR : Rel E σ T.heap) (hlo : ∀ q ∈ locs, XA E q.base) {σ0 : Sto} (hN : Nx n0 s0 σ0 σ) (hl : lv_has ls M.nL (L.map (cvL E))) {ig : Instr} (hd : decode M.cc pc = .ok (ig, 3))
    (hM : Mok M') {mk : MethodId} (hmk : T.methodNamed? M'.y = some mk) (hcc : CC E M' d' as σ Q') (hfit : awords as ≤ M'.nL) (hdd : d' + 1 ≤ d) (hst : awords st + (M'.nL + 11) ≤ 100)
    (hret : ∀ v σ', Q' (.inl v) σ' → SF σ σ' → VV E M d (pc + 3) L (v.toList ++ st) σ' Q) (hthr : ∀ a σ', Q' (.inr a) σ' → noH M pc ∧ Q (.inr a) σ') :
    ∃ t, Steps p.tables e below (doInvoke e (T.setTop (F0 m pc ls (st.map (cv E)))) [] mk (as.map (cv E)).toArray).1 t ∧ ZQ E below s n0 s0 σ0 Q t := by
  have hsum : ((st.map (cv E)).map fun v => v.category).sum = awords st := by
    clear hst hret hthr
    induction st with
    | nil => rfl
    | cons v vs ih => simp only [List.map_cons, List.sum_cons, awords, cv_cat] at ih ⊢; omega
  obtain ⟨t, r, σ', T', Ls, h1, h2, h3, h4, h5, hN', hSF, h6⟩ := z_call hC X hR hN (g := F0 m pc ls (st.map (cv E))) rfl (by rw [hC.ml]; exact hl.1) (by rw [hC.by]; exact hd) hM hmk hcc hfit hdd (by show 2 * 0 + _ + _ ≤ 100; rw [hsum]; omega)
  have hlo' : ∀ q ∈ locs ++ Ls, XA E q.base := t_lL hlo h4
  rcases h6 with ⟨v, rfl, ht⟩ | ⟨a, rfl, ht⟩
  · obtain ⟨t2, b1, b2⟩ := hret v σ' h2 hSF p l e R s m args below meth c n0 s0 σ0 hC T'.heap (locs ++ Ls) h5 hlo' hN' ls hl T' rfl h3
    refine ⟨t2, h1.trans ?_, b2⟩
    rw [ht]
    have e1 : (v.map (cv E)).toList ++ st.map (cv E) = (v.toList ++ st).map (cv E) := by cases v <;> simp
    show Steps _ _ _ (T'.setTop (F0 m (pc + 3) ls ((v.map (cv E)).toList ++ st.map (cv E)))) _
    rw [e1]
    exact b1
  · obtain ⟨hn, hq⟩ := hthr a σ' h2
    obtain ⟨b1, b2, b3, b4, b5⟩ := h3.leaveThrown (E.bs + a) (g := F0 m pc ls (st.map (cv E))) rfl rfl rfl (hout_of hC hn) hC.lk
    exact ⟨_, h1.trans (by rw [ht]; exact b1), .inr a, σ', locs ++ Ls, b2, b3, hq, h5, hN', b4, b5, hlo'⟩
theorem plain_hy (hM : Mok M') : M'.y.cls ≠ "java/lang/invoke/MethodHandle" ∧ M'.y.cls ≠ "java/lang/invoke/VarHandle" := hM.2.2.2
/-- the receiver: an object of ours -/
theorem zrecv {H : Heap} {s : State} {b ci z : Nat} {q : QC} (hK : KK E s) (hR : Rel E σ H) (hs : σ.sh b = (100 + ci, z)) (hq : clT[ci]? = some q) : ∃ cell : Cell, H[E.bs + b]? = some cell ∧ cell.vm.isStatics = false ∧ s.vm.findClass q.1.1 = some cell.cls := by
  have ha : (zws E σ)[b]? = _ := (zws_at (hR.2.2.2.lt hs (by omega))).trans (by rw [zct_o hs])
  exact va_recv hK hR.2.2.1 (cl_V hq) ha
/-- how many parameters, by the descriptor -/
def nPar (M : MI) (n : Nat) : Prop := ∀ sig, parseMethodDescriptor M.y.desc = some sig → n = sig.parameters.length
theorem v_invV {index b ci z : Nat} {q : QC} (hd : DD M.cc pc 3 pc' (.invokevirtual index)) (hstk : stk = as.reverse ++ aO b :: st) (hM : Mok M') (hlink : Cond.methodLink M.y.cls index M'.y ∈ lw_all ∨ ∃ host, Cond.methodLinkNest M.y.cls index M'.y host ∈ lw_tbl) (hinst : Cond.instanceMethod M'.y ∈ lw_all) (hs : σ.sh b = (100 + ci, z)) (hq : clT[ci]? = some q) (hsel : Cond.selects q.1.1 M'.y M'.y ∈ lw_all) (hnp : nPar M' as.length)
    (hcc : CC E M' d' (aO b :: as) σ Q') (hfit : awords (aO b :: as) ≤ M'.nL) (hdd : d' + 1 ≤ d) (hst : awords st + (M'.nL + 11) ≤ 100)
    (hret : ∀ v σ', Q' (.inl v) σ' → SF σ σ' → VV E M d pc' L (v.toList ++ st) σ' Q) (hthr : ∀ a σ', Q' (.inr a) σ' → noH M pc ∧ Q (.inr a) σ') : VV E M d pc L stk σ Q := by
  obtain ⟨hd, rfl⟩ := hd
  subst hstk
  intro p l e R s m args below meth c n0 s0 σ0 hC H locs hR hlo hN ls hl T hT X
  subst hT
  have hw := hC.wd
  have hy := plain_hy hM
  obtain ⟨mk, methM, hnamed, hmethM, hstM, habM⟩ := Cond.instanceMethod_spec (hw _ hinst args)
  obtain ⟨mk', methk, ck, a0, a1, a2, a3, a4, a5, a6, a7, hsigM⟩ := hM.spec hw
  cases hnamed.symm.trans a0
  cases hmethM.symm.trans a1
  obtain ⟨cellB, hcB, hoB, hclB⟩ := zrecv hC.kk hR hs hq
  obtain ⟨c2, r2, m2, q1, q2, q3, q4, kP, hkP, hkPi⟩ := Cond.selects_spec (hw _ hsel args)
  cases hclB.symm.trans q1
  cases (State.methodFound?_of_named hnamed hy).symm.trans q2
  cases hnamed.symm.trans q3
  have hselP : selectMethod e.platform s.vm cellB.cls mk = .method mk := by rw [Launch.admits_selectMethod X.admits]; exact q4
  have hstack : (F0 m pc ls ((as.reverse ++ aO b :: st).map (cv E))).stack = (as.map (cv E)).reverse ++ .ref (E.bs + b) :: st.map (cv E) := by
    show (as.reverse ++ aO b :: st).map (cv E) = _
    rw [List.map_append, List.map_reverse]; rfl
  have hlen : (as.map (cv E)).length = methM.sig.parameters.length := by rw [List.length_map]; exact hnp _ hsigM
  have key : ∃ vm₁, Stand p l e R s m args below meth c (T.setVm vm₁) locs (σ.n - n0) (ssum σ - s0) ∧ ∀ target, (∀ acts, Steps p.tables e below (doInvoke e ((T.setVm vm₁).setTop (F0 m pc ls (st.map (cv E)))) acts mk (Value.ref (E.bs + b) :: as.map (cv E)).toArray).1 target) → Steps p.tables e below (T.setTop (F0 m pc ls ((as.reverse ++ aO b :: st).map (cv E)))) target := by
    rcases hlink with hlink | ⟨host, hlink⟩
    · obtain ⟨vm₁, X₁, hstep₁⟩ := X.invokevirtual hC.ex hC.own (hw _ hlink args) hnamed hmethM hstM hkP hkPi hy (a := E.bs + b) (cell := cellB) hcB (fun z h => by rw [h] at hoB; cases hoB) hselP hmethM habM hkP hkPi (g := F0 m pc ls ((as.reverse ++ aO b :: st).map (cv E))) rfl (argsL := as.map (cv E)) (rest := st.map (cv E)) hlen hstack (by rw [hC.by]; exact hd)
      exact ⟨vm₁, X₁, hstep₁⟩
    · obtain ⟨vm₁, X₁, hstep₁⟩ := X.invokevirtualNest hC.ex hC.own (va_Nw.use rfl (hC.ns _ (nst_in hlink rfl))) hnamed hmethM hstM hkP hkPi hy (a := E.bs + b) (cell := cellB) hcB (fun z h => by rw [h] at hoB; cases hoB) hselP hmethM habM hkP hkPi (g := F0 m pc ls ((as.reverse ++ aO b :: st).map (cv E))) rfl (argsL := as.map (cv E)) (rest := st.map (cv E)) hlen hstack (by rw [hC.by]; exact hd)
      exact ⟨vm₁, X₁, hstep₁⟩
  obtain ⟨vm₁, X₁, hstep₁⟩ := key
  obtain ⟨t, h1, h2⟩ := z_go (as := aO b :: as) hC X₁ hR hlo hN hl hd hM (X₁.named hnamed) hcc hfit hdd hst hret hthr
  exact ⟨t, hstep₁ _ (fun acts => by rw [doInvoke_state]; exact h1), h2⟩
theorem v_invS {index : Nat} (hd : DD M.cc pc 3 pc' (.invokestatic index)) (hstk : stk = as.reverse ++ st) (hM : Mok M') (hlink : Cond.methodLink M.y.cls index M'.y ∈ lw_all ∨ ∃ host, Cond.methodLinkNest M.y.cls index M'.y host ∈ lw_tbl) (hstat : Cond.static M'.y ∈ lw_all) (hnp : nPar M' as.length)
    (hcc : CC E M' d' as σ Q') (hfit : awords as ≤ M'.nL) (hdd : d' + 1 ≤ d) (hst : awords st + (M'.nL + 11) ≤ 100)
    (hret : ∀ v σ', Q' (.inl v) σ' → SF σ σ' → VV E M d pc' L (v.toList ++ st) σ' Q) (hthr : ∀ a σ', Q' (.inr a) σ' → noH M pc ∧ Q (.inr a) σ') : VV E M d pc L stk σ Q := by
  obtain ⟨hd, rfl⟩ := hd
  subst hstk
  intro p l e R s m args below meth c n0 s0 σ0 hC H locs hR hlo hN ls hl T hT X
  subst hT
  have hw := hC.wd
  have hy := plain_hy hM
  obtain ⟨mk, methM, ck, hnamed, hmethM, a2, a3, a4, a5, a6, a7, hsigM⟩ := hM.spec hw
  have hstatic : methM.isStatic = true := Cond.static_spec hnamed hmethM (hw _ hstat args)
  obtain ⟨kP, hkP, -⟩ := className_of_methodNamed hnamed
  have hinitP : kP.init = .initialized := Cond.initialized_spec (findClass_of_methodNamed hnamed) hkP (hw _ hM.2.1 args)
  have hstack : (F0 m pc ls ((as.reverse ++ st).map (cv E))).stack = (as.map (cv E)).reverse ++ st.map (cv E) := by
    show (as.reverse ++ st).map (cv E) = _
    rw [List.map_append, List.map_reverse]
  have hlen : (as.map (cv E)).length = methM.sig.parameters.length := by rw [List.length_map]; exact hnp _ hsigM
  have key : ∃ vm₁, Stand p l e R s m args below meth c (T.setVm vm₁) locs (σ.n - n0) (ssum σ - s0) ∧ ∀ target, (∀ acts, Steps p.tables e below (doInvoke e ((T.setVm vm₁).setTop (F0 m pc ls (st.map (cv E)))) acts mk (as.map (cv E)).toArray).1 target) → Steps p.tables e below (T.setTop (F0 m pc ls ((as.reverse ++ st).map (cv E)))) target := by
    rcases hlink with hlink | ⟨host, hlink⟩
    · obtain ⟨vm₁, X₁, hstep₁⟩ := X.invokestatic hC.ex hC.own (hw _ hlink args) hnamed hmethM hstatic hkP hinitP hy (g := F0 m pc ls ((as.reverse ++ st).map (cv E))) rfl (argsL := as.map (cv E)) (rest := st.map (cv E)) hlen hstack (by rw [hC.by]; exact hd)
      exact ⟨vm₁, X₁, hstep₁⟩
    · obtain ⟨vm₁, X₁, hstep₁⟩ := X.invokestaticNest hC.ex hC.own (va_Nw.use rfl (hC.ns _ (nst_in hlink rfl))) hnamed hmethM hstatic hkP hinitP hy (g := F0 m pc ls ((as.reverse ++ st).map (cv E))) rfl (argsL := as.map (cv E)) (rest := st.map (cv E)) hlen hstack (by rw [hC.by]; exact hd)
      exact ⟨vm₁, X₁, hstep₁⟩
  obtain ⟨vm₁, X₁, hstep₁⟩ := key
  obtain ⟨t, h1, h2⟩ := z_go (as := as) hC X₁ hR hlo hN hl hd hM (X₁.named hnamed) hcc hfit hdd hst hret hthr
  exact ⟨t, hstep₁ _ (fun acts => by rw [doInvoke_state]; exact h1), h2⟩
theorem v_invI {index b : Nat} (hd : DD M.cc pc 3 pc' (.invokespecial index)) (hstk : stk = as.reverse ++ aO b :: st) (hM : Mok M') (hlink : Cond.methodLink M.y.cls index M'.y ∈ lw_all ∨ ∃ host, Cond.methodLinkNest M.y.cls index M'.y host ∈ lw_tbl) (hinst : Cond.instanceMethod M'.y ∈ lw_all) (hcd : Cond.code M'.y M'.cc M'.nL none ∈ lw_all) (hy1 : M'.y.name = "<init>") (hnp : nPar M' as.length)
    (hcc : CC E M' d' (aO b :: as) σ Q') (hfit : awords (aO b :: as) ≤ M'.nL) (hdd : d' + 1 ≤ d) (hst : awords st + (M'.nL + 11) ≤ 100)
    (hret : ∀ v σ', Q' (.inl v) σ' → SF σ σ' → VV E M d pc' L (v.toList ++ st) σ' Q) (hthr : ∀ a σ', Q' (.inr a) σ' → noH M pc ∧ Q (.inr a) σ') : VV E M d pc L stk σ Q := by
  obtain ⟨hd, rfl⟩ := hd
  subst hstk
  intro p l e R s m args below meth c n0 s0 σ0 hC H locs hR hlo hN ls hl T hT X
  subst hT
  have hw := hC.wd
  have hy := plain_hy hM
  have hstack : (F0 m pc ls ((as.reverse ++ aO b :: st).map (cv E))).stack = (as.map (cv E)).reverse ++ .ref (E.bs + b) :: st.map (cv E) := by
    show (as.reverse ++ aO b :: st).map (cv E) = _
    rw [List.map_append, List.map_reverse]; rfl
  have hlen : ∀ sig, parseMethodDescriptor M'.y.desc = some sig → (as.map (cv E)).length = sig.parameters.length := fun sig h => by rw [List.length_map]; exact hnp _ h
  have hpl : e.platform.magicAccessors = ({} : Platform).magicAccessors := by rw [X.admits.platform]
  have key : ∃ mk vm₁, s.methodNamed? M'.y = some mk ∧ Stand p l e R s m args below meth c (T.setVm vm₁) locs (σ.n - n0) (ssum σ - s0) ∧ ∀ target, (∀ acts, Steps p.tables e below (doInvoke e ((T.setVm vm₁).setTop (F0 m pc ls (st.map (cv E)))) acts mk (Value.ref (E.bs + b) :: as.map (cv E)).toArray).1 target) → Steps p.tables e below (T.setTop (F0 m pc ls ((as.reverse ++ aO b :: st).map (cv E)))) target := by
    rcases hlink with hlink | ⟨host, hlink⟩
    · obtain ⟨mk, methM, cM, kP, vm₁, hnamed, hmethM, hcodeM, -, hlocalsM, -, hkP, -, hW₁, hstep₁⟩ := Steps.initColdArgs (e := e) X.here hC.ex X.warmed hpl hC.own hy1 hy (hw _ hlink args) (hw _ hinst args) (hw _ hcd args) (f := F0 m pc ls ((as.reverse ++ aO b :: st).map (cv E))) rfl hlen hstack (by rw [hC.by]; exact hd)
      exact ⟨mk, vm₁, hnamed, X.noted hW₁, hstep₁⟩
    · obtain ⟨mk, methM, cM, kP, vm₁, hnamed, hmethM, hcodeM, -, hlocalsM, -, hkP, -, hW₁, hstep₁⟩ := Steps.initColdArgsNest (e := e) X.here hC.ex X.warmed hpl hC.own hy1 hy (va_Nw.use rfl (hC.ns _ (nst_in hlink rfl))) (hw _ hinst args) (hw _ hcd args) (f := F0 m pc ls ((as.reverse ++ aO b :: st).map (cv E))) rfl hlen hstack (by rw [hC.by]; exact hd)
      exact ⟨mk, vm₁, hnamed, X.noted hW₁, hstep₁⟩
  obtain ⟨mk, vm₁, hnamed, X₁, hstep₁⟩ := key
  obtain ⟨t, h1, h2⟩ := z_go (as := aO b :: as) hC X₁ hR hlo hN hl hd hM (X₁.named hnamed) hcc hfit hdd hst hret hthr
  exact ⟨t, hstep₁ _ (fun acts => by rw [doInvoke_state]; exact h1), h2⟩
end VINV
