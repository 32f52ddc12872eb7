/-! new Fault: a cell just made, its constructor -/
/-- a cell just made of class Fault -/
def BLK (E : XE) (b : Nat) (s : State) (H : Heap) : Prop := ∃ kX : Class, s.vm.classes[E.D.1 12]? = some kX ∧ H[E.bs + b]? = some (blank (E.D.1 12) kX)
theorem BLK.moved {E : XE} {b : Nat} {s U : State} {H : Heap} (hvm : s.vm.Alike U.vm) (h : BLK E b s H) : BLK E b U H := by
  obtain ⟨k, h1, h2⟩ := h
  obtain ⟨k', hk', he⟩ := hvm.2.2 _ _ h1
  refine ⟨k', hk', ?_⟩
  rw [h2]; unfold blank; rw [he]
/-- the judgement, with a cell just made in sight -/
def VVh (bb : Nat) (E : XE) (M : MI) (d pc : Nat) (L : List (Nat × AV)) (st : List AV) (σ : Sto) (Q : Res → Sto → Prop) : Prop :=
  ∀ (p : Program) (l : LN) (e : Env) (R : Room) (s : State) (m : MethodId) (args : Array Value) (below : List Frame) (meth : Method) (c : Code) (n0 s0 : Nat) (σ0 : Sto), Cy E M d n0 s0 p R s m meth c →
    ∀ (H : Heap) (locs : List Loc), Rel E σ H → BLK E bb s H → (∀ q ∈ locs, XA E q.base) → Nx n0 s0 σ0 σ → ∀ ls : Array Slot, lv_has ls M.nL (L.map (cvL E)) →
      W p l.1 e R s m args below meth c H locs (σ.n - n0) (ssum σ - s0) (ZQ E below s n0 s0 σ0 Q) (F0 m pc ls (st.map (cv E)))
abbrev CCh (bb : Nat) (E : XE) (M : MI) (d : Nat) (as : List AV) (σ : Sto) (Q : Res → Sto → Prop) : Prop := VVh bb E M d 0 (argL 0 as) [] σ Q
section VINVH
variable {E : XE} {M M' : MI} {d d' n0 s0 pc pc' : Nat} {L : List (Nat × AV)} {st stk as : List AV} {σ : Sto} {Q Q' : Res → Sto → Prop}
theorem z_callh {E : XE} {M M' : MI} {d d' n0 s0 : Nat} {as : List AV} {σ : Sto} {Q' : Res → Sto → Prop} {p : Program} {l : LN} {e : Env} {R : Room} {s : State} {m : MethodId} {args : Array Value} {below : List Frame} {meth : Method} {c : Code} {T : State} {locs : List Loc}
    (hC : Cy E M d n0 s0 p R s m meth c) (X : Stand p l.1 e R s m args below meth c T locs (σ.n - n0) (ssum σ - s0)) {σ0 : Sto} (hR : Rel E σ T.heap) (hN : Nx n0 s0 σ0 σ)
    {g : JFrame} (hg : g.method = m) (hgs : g.locals.size = c.maxLocals) {ig : Instr} {len : Nat} (hdg : decode c.code g.pc = .ok (ig, len))
    (hM : Mok M') {mk : MethodId} (hmk : T.methodNamed? M'.y = some mk) {bb : Nat} (hB : BLK E bb s T.heap) (hcc : CCh bb E M' d' as σ Q') (hfit : awords as ≤ M'.nL)
    (hd : d' + 1 ≤ d) (hst : 2 * g.monitorRoom + (g.stack.map fun v => v.category).sum + (M'.nL + 11) ≤ 100) :
    ∃ (t : State) (r : Res) (σ' : Sto) (T' : State) (Ls : List Loc), Steps p.tables e below (doInvoke e (T.setTop g) [] mk (as.map (cv E)).toArray).1 t ∧ Q' r σ' ∧ Stand p l.1 e R s m args below meth c T' (locs ++ Ls) (σ'.n - n0) (ssum σ' - s0) ∧ (∀ q ∈ Ls, XA E q.base) ∧ Rel E σ' T'.heap ∧ Nx n0 s0 σ0 σ' ∧ SF σ σ' ∧
      ((∃ v, r = .inl v ∧ t = T'.setTop { g with pc := g.pc + len, stack := (v.map (cv E)).toList ++ g.stack }) ∨ (∃ a, r = .inr a ∧ t = (T'.setTop g).pushFrame (.throwing (E.bs + a)))) := by
  have hwT := words_later hC.wd X.warmed
  obtain ⟨mk', methk, ck, a0, a1, a2, a3, a4, a5, a6, a7, a8⟩ := hM.spec hwT
  cases hmk.symm.trans a0
  have hpk : T.plainMethod mk := by
    intro kk hkk
    obtain ⟨kY, hkY, hnm⟩ := className_of_methodNamed a0
    cases hkk.symm.trans hkY
    rcases hM.1 with h | h
    · exact plain_of_name (by rw [hnm]; exact h)
    · rw [Bool.or_eq_true]
      right
      unfold rowless
      have hm : kk.methods[mk.idx]? = some methk := by
        have a1' : (T.vm.classes[mk.cls]?).bind (fun k => k.methods[mk.idx]?) = some methk := a1
        rw [hkk] at a1'
        exact a1'
      obtain ⟨n1, n2⟩ := name_of_methodNamed a0 a1
      rw [hm]
      show (NativeRow.find? Jvm.natives kk.name methk.name methk.desc).isNone = true
      rw [hnm, n1, n2]; exact h
  have hcn : σ.n ≤ NC := hR.2.2.2.2.2.2.2.1
  have hcs : ssum σ ≤ NS := hR.2.2.2.2.2.2.2.2
  have hn0' := hN.1
  have hs0' := hN.2.1
  have h1 := hC.fr
  have h2 := hC.lo
  have h3 := hC.nc
  have h4 := hC.nS
  obtain ⟨Y, hdo⟩ := X.into hg hgs hdg (as.map (cv E)).toArray (R' := rmZ d' (NC - σ.n) (NS - ssum σ)) a1 a2 a6 hpk (by show d' + 1 ≤ R.frames; omega) (by show _ + _ + _ + 100 * d' ≤ R.locals; rw [a4]; omega) (by show σ.n - n0 + (NC - σ.n) ≤ R.cells; omega) (by show ssum σ - s0 + (NS - ssum σ) ≤ R.slots; omega)
  have hCx : Cy E M' d' σ.n (ssum σ) p (rmZ d' (NC - σ.n) (NS - ssum σ)) (T.calling g mk (as.map (cv E)).toArray) mk methk ck := by
    refine ⟨⟨hC.ex, a3, a4, ?_, words_later hC.wd X.warmed, a5, a6, ?_, a7, nest_later hC.ns X.warmed⟩, va_K.moved X.warmed.alike hC.kk, hR.1, Nat.le_refl _, Nat.le_refl _, by show NC ≤ σ.n + (NC - σ.n); omega, by show NS ≤ ssum σ + (NS - ssum σ); omega, hC.sx.warm X.warmed, hC.b0⟩
    · exact findClass_of_methodNamed a0
    · exact (name_of_methodNamed a0 a1).1
  have hl := lv_entry (as.map (cv E)) (n := M'.nL) (by rw [awords_sl]; exact hfit)
  rw [← argL_map E as 0] at hl
  have hV := hcc p l e (rmZ d' (NC - σ.n) (NS - ssum σ)) (T.calling g mk (as.map (cv E)).toArray) mk (as.map (cv E)).toArray (.java g :: below) methk ck σ.n (ssum σ) σ hCx T.heap [] hR (BLK.moved X.warmed.alike hB) (fun q hq => by cases hq) ⟨Nat.le_refl _, Nat.le_refl _, SF.rf⟩ _ hl
  rw [Nat.sub_self, Nat.sub_self] at hV
  obtain ⟨t, hst1, r, σ', Ls, hrun, hend, hq, hR', ⟨hn', hs', hSF⟩, hW', hsame, hLs⟩ := hV _ (by rfl) Y
  have hsteps : Steps p.tables e below (doInvoke e (T.setTop g) [] mk (as.map (cv E)).toArray).1 t := by
    rw [hdo []]
    refine steps_up (f := .java g) ?_
    rw [a4, lg_entry_eq]
    rw [a4, lg_entry_eq] at hst1
    exact hst1
  have hn0 := hN.1
  have hs0 := hN.2.1
  have e1 : σ.n - n0 + (σ'.n - σ.n) = σ'.n - n0 := by omega
  have e2 : ssum σ - s0 + (ssum σ' - ssum σ) = ssum σ' - s0 := by omega
  rcases r with v | a
  · obtain ⟨T', Y1, Y2, Y3, Y4⟩ := X.outOf hg hdg (mk := mk) (a := (as.map (cv E)).toArray) (v := v.map (cv E)) hend hW' hsame
    rw [e1, e2] at Y1
    refine ⟨t, .inl v, σ', T', Ls, hsteps, hq, Y1, hLs, ?_, ⟨by omega, by omega, hN.2.2.tr hSF⟩, hSF, Or.inl ⟨v, rfl, Y4⟩⟩
    rw [Y4] at hR'; exact hR'
  · obtain ⟨T', Y1, Y2, Y3, Y4⟩ := X.outOfThrown hg (mk := mk) (a := (as.map (cv E)).toArray) (x := E.bs + a) hend hW' hsame
    rw [e1, e2] at Y1
    refine ⟨t, .inr a, σ', T', Ls, hsteps, hq, Y1, hLs, ?_, ⟨by omega, by omega, hN.2.2.tr hSF⟩, hSF, Or.inr ⟨a, rfl, Y4⟩⟩
    rw [Y4, throwing_heap] at hR'; exact hR'
theorem z_goh {p : Program} {l : LN} {e : Env} {R : Room} {s : State} {m : MethodId} {args : Array Value} {below : List Frame} {meth : Method} {c : Code} {T : State} {locs : List Loc} {ls : Array Slot} (hC : Cy E M d n0 s0 p R s m meth c)
    (X : Stand p l.1 e R s m args below meth c T locs (σ.n - n0) (ssum σ - s0)) (hR : Rel E σ T.heap) (hlo : ∀ q ∈ locs, XA E q.base) {σ0 : Sto} (hN : Nx n0 s0 σ0 σ) (hl : lv_has ls M.nL (L.map (cvL E))) {ig : Instr} (hd : decode M.cc pc = .ok (ig, 3))
    (hM : Mok M') {mk : MethodId} (hmk : T.methodNamed? M'.y = some mk) {bb : Nat} (hB : BLK E bb s T.heap) (hcc : CCh bb E M' d' as σ Q') (hfit : awords as ≤ M'.nL) (hdd : d' + 1 ≤ d) (hst : awords st + (M'.nL + 11) ≤ 100)
    (hret : ∀ v σ', Q' (.inl v) σ' → SF σ σ' → VV E M d (pc + 3) L (v.toList ++ st) σ' Q) (hthr : ∀ a σ', Q' (.inr a) σ' → noH M pc ∧ Q (.inr a) σ') :
    ∃ t, Steps p.tables e below (doInvoke e (T.setTop (F0 m pc ls (st.map (cv E)))) [] mk (as.map (cv E)).toArray).1 t ∧ ZQ E below s n0 s0 σ0 Q t := by
  have hsum : ((st.map (cv E)).map fun v => v.category).sum = awords st := by
    clear hst hret hthr
    induction st with
    | nil => rfl
    | cons v vs ih => simp only [List.map_cons, List.sum_cons, awords, cv_cat] at ih ⊢; omega
  obtain ⟨t, r, σ', T', Ls, h1, h2, h3, h4, h5, hN', hSF, h6⟩ := z_callh hC X hR hN (g := F0 m pc ls (st.map (cv E))) rfl (by rw [hC.ml]; exact hl.1) (by rw [hC.by]; exact hd) hM hmk hB hcc hfit hdd (by show 2 * 0 + _ + _ ≤ 100; rw [hsum]; omega)
  have hlo' : ∀ q ∈ locs ++ Ls, XA E q.base := t_lL hlo h4
  rcases h6 with ⟨v, rfl, ht⟩ | ⟨a, rfl, ht⟩
  · obtain ⟨t2, b1, b2⟩ := hret v σ' h2 hSF p l e R s m args below meth c n0 s0 σ0 hC T'.heap (locs ++ Ls) h5 hlo' hN' ls hl T' rfl h3
    refine ⟨t2, h1.trans ?_, b2⟩
    rw [ht]
    have e1 : (v.map (cv E)).toList ++ st.map (cv E) = (v.toList ++ st).map (cv E) := by cases v <;> simp
    show Steps _ _ _ (T'.setTop (F0 m (pc + 3) ls ((v.map (cv E)).toList ++ st.map (cv E)))) _
    rw [e1]
    exact b1
  · obtain ⟨hn, hq⟩ := hthr a σ' h2
    obtain ⟨b1, b2, b3, b4, b5⟩ := h3.leaveThrown (E.bs + a) (g := F0 m pc ls (st.map (cv E))) rfl rfl rfl (hout_of hC hn) hC.lk
    exact ⟨_, h1.trans (by rw [ht]; exact b1), .inr a, σ', locs ++ Ls, b2, b3, hq, h5, hN', b4, b5, hlo'⟩
theorem v_invIh {index b : Nat} (hd : DD M.cc pc 3 pc' (.invokespecial index)) (hstk : stk = as.reverse ++ aO b :: st) (hM : Mok M') (hlink : Cond.methodLink M.y.cls index M'.y ∈ lw_all ∨ ∃ host, Cond.methodLinkNest M.y.cls index M'.y host ∈ lw_tbl) (hinst : Cond.instanceMethod M'.y ∈ lw_all) (hcd : Cond.code M'.y M'.cc M'.nL none ∈ lw_all) (hy1 : M'.y.name = "<init>") (hnp : nPar M' as.length)
    {bb : Nat} (hcc : CCh bb E M' d' (aO b :: as) σ Q') (hfit : awords (aO b :: as) ≤ M'.nL) (hdd : d' + 1 ≤ d) (hst : awords st + (M'.nL + 11) ≤ 100)
    (hret : ∀ v σ', Q' (.inl v) σ' → SF σ σ' → VV E M d pc' L (v.toList ++ st) σ' Q) (hthr : ∀ a σ', Q' (.inr a) σ' → noH M pc ∧ Q (.inr a) σ') : VVh bb E M d pc L stk σ Q := by
  obtain ⟨hd, rfl⟩ := hd
  subst hstk
  intro p l e R s m args below meth c n0 s0 σ0 hC H locs hR hB hlo hN ls hl T hT X
  subst hT
  have hw := hC.wd
  have hy := plain_hy hM
  have hstack : (F0 m pc ls ((as.reverse ++ aO b :: st).map (cv E))).stack = (as.map (cv E)).reverse ++ .ref (E.bs + b) :: st.map (cv E) := by
    show (as.reverse ++ aO b :: st).map (cv E) = _
    rw [List.map_append, List.map_reverse]; rfl
  have hlen : ∀ sig, parseMethodDescriptor M'.y.desc = some sig → (as.map (cv E)).length = sig.parameters.length := fun sig h => by rw [List.length_map]; exact hnp _ h
  have hpl : e.platform.magicAccessors = ({} : Platform).magicAccessors := by rw [X.admits.platform]
  have key : ∃ mk vm₁, s.methodNamed? M'.y = some mk ∧ Stand p l e R s m args below meth c (T.setVm vm₁) locs (σ.n - n0) (ssum σ - s0) ∧ ∀ target, (∀ acts, Steps p.tables e below (doInvoke e ((T.setVm vm₁).setTop (F0 m pc ls (st.map (cv E)))) acts mk (Value.ref (E.bs + b) :: as.map (cv E)).toArray).1 target) → Steps p.tables e below (T.setTop (F0 m pc ls ((as.reverse ++ aO b :: st).map (cv E)))) target := by
    rcases hlink with hlink | ⟨host, hlink⟩
    · obtain ⟨mk, methM, cM, kP, vm₁, hnamed, hmethM, hcodeM, -, hlocalsM, -, hkP, -, hW₁, hstep₁⟩ := Steps.initColdArgs (e := e) X.here hC.ex X.warmed hpl hC.own hy1 hy (hw _ hlink args) (hw _ hinst args) (hw _ hcd args) (f := F0 m pc ls ((as.reverse ++ aO b :: st).map (cv E))) rfl hlen hstack (by rw [hC.by]; exact hd)
      exact ⟨mk, vm₁, hnamed, X.noted hW₁, hstep₁⟩
    · obtain ⟨mk, methM, cM, kP, vm₁, hnamed, hmethM, hcodeM, -, hlocalsM, -, hkP, -, hW₁, hstep₁⟩ := Steps.initColdArgsNest (e := e) X.here hC.ex X.warmed hpl hC.own hy1 hy (va_Nw.use rfl (hC.ns _ (nst_in hlink rfl))) (hw _ hinst args) (hw _ hcd args) (f := F0 m pc ls ((as.reverse ++ aO b :: st).map (cv E))) rfl hlen hstack (by rw [hC.by]; exact hd)
      exact ⟨mk, vm₁, hnamed, X.noted hW₁, hstep₁⟩
  obtain ⟨mk, vm₁, hnamed, X₁, hstep₁⟩ := key
  obtain ⟨t, h1, h2⟩ := z_goh (as := aO b :: as) hC X₁ hR hlo hN hl hd hM (X₁.named hnamed) hB hcc hfit hdd hst hret hthr
  exact ⟨t, hstep₁ _ (fun acts => by rw [doInvoke_state]; exact h1), h2⟩
end VINVH
section VVHR
variable {bb : Nat} {E : XE} {M : MI} {d pc pc' : Nat} {L : List (Nat × AV)} {st : List AV} {σ : Sto} {Q : Res → Sto → Prop}
theorem vh_dup {v : AV} (hd : DD M.cc pc 1 pc' .dup) (hc : acat v = 1) (h : VVh bb E M d pc' L (v :: v :: st) σ Q) : VVh bb E M d pc L (v :: st) σ Q := by
  obtain ⟨hd, rfl⟩ := hd
  intro p l e R s m args below meth c n0 s0 σ0 hC H locs hR hB hlo hN ls hl
  refine lv_dup hC.ex hC.by hd (by rw [← cv_cat E] at hc; exact hc) ?_
  exact h p l e R s m args below meth c n0 s0 σ0 hC H locs hR hB hlo hN ls hl
theorem vh_bipush {x : Int} (hd : DD M.cc pc 2 pc' (.bipush x)) (h8 : -128 ≤ x ∧ x ≤ 127) (h : VVh bb E M d pc' L (aI (x) :: st) σ Q) : VVh bb E M d pc L (st) σ Q := by
  obtain ⟨hd, rfl⟩ := hd
  intro p l e R s m args below meth c n0 s0 σ0 hC H locs hR hB hlo hN ls hl
  show W _ _ _ _ _ _ _ _ _ _ _ _ _ _ _ (F0 m pc ls (st.map (cv E)))
  refine lv_bipush hC.ex hC.by hd (i8_lit h8.1 h8.2) ?_
  exact h p l e R s m args below meth c n0 s0 σ0 hC H locs hR hB hlo hN ls hl
theorem vh_iload_n {i : Nat} {q : Fin 4} {x : Int} (j : Nat) (hd : DD M.cc pc 1 pc' (.iload_n q)) (hi : (q : Nat) = i) (hj : L[j]? = some (i, aI x)) (h : VVh bb E M d pc' L (aI x :: st) σ Q) : VVh bb E M d pc L st σ Q := by
  obtain ⟨hd, rfl⟩ := hd
  intro p l e R s m args below meth c n0 s0 σ0 hC H locs hR hB hlo hN ls hl
  have hj' : (L.map (cvL E))[j]? = some (i, cv E (aI x)) := by rw [List.getElem?_map, hj]; rfl
  refine lv_iload_n hC.ex hC.by hd hi (lv_at hl j hj') ?_
  exact h p l e R s m args below meth c n0 s0 σ0 hC H locs hR hB hlo hN ls hl
theorem vh_aload_n {i : Nat} {q : Fin 4} {a : Nat} (j : Nat) (hd : DD M.cc pc 1 pc' (.aload_n q)) (hi : (q : Nat) = i) (hj : L[j]? = some (i, aO a)) (h : VVh bb E M d pc' L (aO a :: st) σ Q) : VVh bb E M d pc L st σ Q := by
  obtain ⟨hd, rfl⟩ := hd
  intro p l e R s m args below meth c n0 s0 σ0 hC H locs hR hB hlo hN ls hl
  have hj' : (L.map (cvL E))[j]? = some (i, cv E (aO a)) := by rw [List.getElem?_map, hj]; rfl
  refine lv_aload_n hC.ex hC.by hd hi (lv_at hl j hj') ?_
  exact h p l e R s m args below meth c n0 s0 σ0 hC H locs hR hB hlo hN ls hl
theorem vh_isub {x y : Int} (hd : DD M.cc pc 1 pc' (.isub)) (h : VVh bb E M d pc' L (aI (x - y) :: st) σ Q) : VVh bb E M d pc L (aI (y) :: aI (x) :: st) σ Q := by
  obtain ⟨hd, rfl⟩ := hd
  intro p l e R s m args below meth c n0 s0 σ0 hC H locs hR hB hlo hN ls hl
  show W _ _ _ _ _ _ _ _ _ _ _ _ _ _ _ (F0 m pc ls (.int (Int32.ofInt (y)) :: .int (Int32.ofInt (x)) :: st.map (cv E)))
  refine lv_isub hC.ex hC.by hd ?_
  rw [← Int32.ofInt_sub]
  exact h p l e R s m args below meth c n0 s0 σ0 hC H locs hR hB hlo hN ls hl
/-- new: the cell is blank -/
theorem v_newh {index : Nat} (hd : DD M.cc pc 3 pc' (.new index)) (hcl : Cond.classLink M.y.cls index "SearchHouse$Fault" ∈ lw_all) (hk1 : σ.n + 1 ≤ NC) (hn1 : ssum σ + 7 ≤ NS) (h : SF σ (σ.al 112 7) → VVh σ.n E M d pc' L (aO σ.n :: st) (σ.al 112 7) Q) : VV E M d pc L st σ Q := by
  obtain ⟨hd, rfl⟩ := hd
  have hq : clT[12]? = some ((RX12, TXF, 1), fun _ => .int) := rfl
  intro p l e R s m args below meth c n0 s0 σ0 hC H locs hR hlo hN ls hl
  have hw := hC.wd
  have ok := cl_ok hq
  have hKn := hC.kk.1 12 _ (cl_V hq)
  refine W.newcK hC.ex hC.by hC.own (hw _ hcl args) (hw _ q1560 args) (hw _ q276 args) rfl hd (by have := hC.nc; have := hN.1; omega) (by have := hC.nS; have := hN.2.1; omega) hKn.2.1 hR.1 fun H1 kC hkC e1 z1 o1 => ?_
  have hT : TI (σ.al 112 7) := hR.2.2.2.al (Or.inr (by omega)) (by have e9 : NS = 6917491 := rfl; omega) hk1 hn1
  have hn0 := hN.1
  have hs0 := hN.2.1
  have c1 : σ.n - n0 + 1 = (σ.al 112 7).n - n0 := by show _ = σ.n + 1 - n0; omega
  have c2 : ssum σ - s0 + 7 = ssum (σ.al 112 7) - s0 := by rw [ssum_al]; omega
  rw [c1, c2]
  refine h (Nx.al (n0 := σ.n) (s0 := ssum σ) ⟨Nat.le_refl _, Nat.le_refl _, SF.rf⟩ hR.2.2.2).2.2 p l e R s m args below meth c n0 s0 σ0 hC H1 locs (hR.al hT (by rw [z1, hR.1]) (fun x hx => o1 x (by rw [← hR.1]; exact hx)) ?_) ⟨kC, hkC, e1⟩ hlo (hN.al hR.2.2.2) ls hl
  have hs : (σ.al 112 7).sh σ.n = (100 + 12, 7) := if_pos rfl
  rw [zct_o hs]
  refine ⟨_, cl_V hq, t_OB.to (u_born (fun _ => .int) (fun w h => hw w h args) ok.1 hKn hkC e1 ok.2.1) (fun kf hkf => ?_)⟩
  show defaultValue (.int) = (zfs E (σ.al 112 7) σ.n 12).getD kf .null
  rw [List.getD_eq_getElem?_getD, zfs_get hq hkf]
  show Value.int 0 = Value.int (Int32.ofInt (if σ.n = σ.n then 0 else σ.I σ.n kf))
  rw [if_pos rfl]
  rfl
end VVHR
section FSUP
variable {bb : Nat} {E : XE} {M : MI} {d pc pc' : Nat} {L : List (Nat × AV)} {st : List AV} {σ : Sto} {Q : Res → Sto → Prop}
/-- a static field of Throwable, at the start of the method -/
theorem zST.lays {E : XE} {n0 : Nat} {σ : Sto} {s T : State} {locs : List Loc} {cells slots : Nat} {n dd : String} {v : Value} {args : Array Value} (h : zST n dd v (XA E) s E.H0) (hsz : s.heap.size = E.bs + n0) (hR : Rel E σ T.heap) (hsm : s.sameButNew ({ T with vm := s.vm } : State) locs cells slots) : (Cond.laysStatic "java/lang/Throwable" n dd).before args s = true := by
  obtain ⟨cf, kf, fi, f, a, cell, h0, h1, h2, h3, h4, h5, h6, h7, h8, h9, h10⟩ := h
  have hlt : a < E.bs := Nat.lt_of_not_le h10
  have hT : T.heap[a]? = some cell := (hR.2.1 a hlt).trans h4
  obtain ⟨c0, hc0⟩ : ∃ c0, s.heap[a]? = some c0 := ⟨s.heap[a]'(by omega), Array.getElem?_eq_getElem (by omega)⟩
  obtain ⟨c', hc', he, hz, -⟩ := hsm.2.2.2.2.2 a c0 hc0
  have hcc : c' = cell := Option.some.inj (hc'.symm.trans hT)
  subst hcc
  have hv : c'.vm = c0.vm := by rw [he]
  have hcl : c'.cls = c0.cls := by rw [he]
  show (Cond.laysStatic "java/lang/Throwable" n dd).holds args s none s [] = true
  simp only [Cond.holds, Cond.value, h0, h1, h3]
  simp [hc0, h2, ← hv, h5, ← hcl, h6, ← hz, h7, h8]
theorem thr_atoms {E : XE} {d n0 s0 : Nat} {p : Program} {R : Room} {s : State} {m : MethodId} {meth : Method} {c : Code} (hC : Cy E M d n0 s0 p R s m meth c) {T : State} {locs : List Loc} {cells slots : Nat} (hR : Rel E σ T.heap) (hsm : s.sameButNew ({ T with vm := s.vm } : State) locs cells slots) (args : Array Value) : ∀ x ∈ Bundle.throwableAtoms, x.before args s = true := by
  have hw := hC.wd
  obtain ⟨v1, hv1, z1⟩ := hC.sx.2.2.2.2.2.1
  obtain ⟨v2, hv2, z2⟩ := hC.sx.2.2.2.2.2.2
  intro x hx
  simp only [Bundle.throwableAtoms, List.mem_cons, List.not_mem_nil, or_false] at hx
  rcases hx with rfl | rfl | rfl | rfl | rfl | rfl | rfl | rfl | rfl | rfl | rfl | rfl | rfl | rfl | rfl | rfl | rfl | rfl | rfl | rfl | rfl | rfl | rfl | rfl
  · exact hw _ q263 args
  · exact hw _ q1581 args
  · exact hw _ q1590 args
  · exact hw _ q1593 args
  · exact hw _ q1596 args
  · exact hw _ q1598 args
  · exact hw _ q1582 args
  · exact hw _ q1583 args
  · exact hw _ q309 args
  · exact hw _ q310 args
  · exact hw _ q1584 args
  · exact hw _ q1589 args
  · exact hw _ q1594 args
  · exact hw _ q1613 args
  · exact hw _ q1571 args
  · exact hw _ q1614 args
  · exact hw _ q1573 args
  · exact hw _ q1615 args
  · exact hw _ q1575 args
  · exact hw _ q1585 args
  · exact z1.lays hC.sz hR hsm
  · exact hw _ q1587 args
  · exact z2.lays hC.sz hR hsm
  · exact hw _ q1577 args
theorem chain_atoms {E : XE} {d n0 s0 : Nat} {p : Program} {R : Room} {s : State} {m : MethodId} {meth : Method} {c : Code} (hC : Cy E M d n0 s0 p R s m meth c) (args : Array Value) : ∀ x ∈ Bundle.chain0Atoms "java/lang/RuntimeException" ["java/lang/Exception"], x.before args s = true := by
  have hw := hC.wd
  intro x hx
  simp only [Bundle.chain0Atoms, Bundle.passAtoms, List.mem_append, List.mem_cons, List.not_mem_nil, or_false] at hx
  rcases hx with (rfl | rfl | rfl | rfl | rfl) | (rfl | rfl | rfl | rfl | rfl)
  · exact hw _ q1603 args
  · exact hw _ q1604 args
  · exact hw _ q1605 args
  · exact hw _ q1606 args
  · exact va_Nw.use rfl (hC.ns _ (nst_in q1564 rfl))
  · exact hw _ q1606 args
  · exact hw _ q1607 args
  · exact hw _ q1608 args
  · exact hw _ q1582 args
  · exact va_Nw.use rfl (hC.ns _ (nst_in q1566 rfl))
theorem Rel.same {H H1 : Heap} {a : Nat} (hR : Rel E σ H) (hn : a < σ.n) (he : va_at E.D clV (E.bs + a, zct E σ a) H1) (hz : H1.size = H.size) (oq : ∀ q : Nat, q ≠ E.bs + a → H1[q]? = H[q]?) : Rel E σ H1 := by
  have h := hR.wI (i := 0) (v := σ.I a 0) hn (H1 := H1)
  have e : σ.wI a 0 (σ.I a 0) = σ := by
    have : up2 σ.I a 0 (σ.I a 0) = σ.I := by
      funext x j
      unfold up2
      split
      · rename_i h9; rw [h9.1, h9.2]
      · rfl
    show (up2 σ.I a 0 (σ.I a 0), σ.2) = σ
    rw [this]
  rw [e] at h
  exact h hR.2.2.2 he hz oq
/-- the constructor of RuntimeException on a cell just made of class Fault -/
theorem vh_superF {b z : Nat} (hd : DD M.cc pc 3 pc' (.invokespecial 1)) (hy : M.y.cls = "SearchHouse$Fault") (hs : σ.sh b = (112, z)) (hd5 : 5 ≤ d) (hst : awords st ≤ 20) (h : VV E M d pc' L st σ Q) : VVh b E M d pc L (aO b :: st) σ Q := by
  obtain ⟨hd, rfl⟩ := hd
  intro p l e R s m args below meth c n0 s0 σ0 hC H locs hR hB hlo hN ls hl T hT X
  subst hT
  have hw := hC.wd
  obtain ⟨kX, hkX, hcell⟩ := hB
  have howns : e.platform.frameOwnsMonitors = true := by rw [X.admits.platform]
  have hfin : e.platform.finalization = false := by rw [X.admits.platform]
  have hpl : e.platform.magicAccessors = ({} : Platform).magicAccessors := by rw [X.admits.platform]
  have htr : e.platform.stackTraces = false := by rw [X.admits.platform]; exact l.2
  have hq : clT[12]? = some ((RX12, TXF, 1), fun _ => .int) := rfl
  have ok := cl_ok hq
  obtain ⟨hS, hfound, kC, hkC, hord⟩ := hC.kk.1 12 _ (cl_V hq)
  have hfound : s.vm.findClass "SearchHouse$Fault" = some (E.D.1 12) := hfound
  cases Option.some.inj (hkC.symm.trans hkX)
  obtain ⟨Th, Z, Lk, LZ, Y⟩ := ThrowableC.of_atoms (args := args) howns hfin hpl (thr_atoms hC hR X.same args)
  obtain ⟨P1, Ps, hlen, L1, hL, hP1m, hlink1, hlink⟩ := Bundle.chain0 (args := args) hpl Y.init0 ["java/lang/Exception"] "java/lang/RuntimeException" (by decide +kernel) (by decide +kernel) (chain_atoms hC args)
  have hsel0 : selectMethod e.platform s.vm (E.D.1 12) Th.fill0 = .method Th.fill0 := by
    obtain ⟨c2, r2, m2, q1, q2, q3, q4, -⟩ := Cond.selects_spec (hw _ q1568 args)
    cases Option.some.inj (q1.symm.trans hfound)
    cases Option.some.inj (q2.symm.trans (State.methodFound?_of_named Y.fill0 (by decide)))
    cases Option.some.inj (q3.symm.trans Y.fill0)
    rw [Launch.admits_selectMethod X.admits]; exact q4
  have hselF : selectMethod e.platform s.vm (E.D.1 12) Th.fill = .method Th.fill := by
    obtain ⟨c2, r2, m2, q1, q2, q3, q4, -⟩ := Cond.selects_spec (hw _ q1569 args)
    cases Option.some.inj (q1.symm.trans hfound)
    cases Option.some.inj (q2.symm.trans (State.methodFound?_of_named Y.fill (by decide)))
    cases Option.some.inj (q3.symm.trans Y.fill)
    rw [Launch.admits_selectMethod X.admits]; exact q4
  obtain ⟨v1, hv1, cf1, kf1, fi1, f1, a1, cellS, u0, u1, u2, u3, u4, u5, u6, u7, u8, u9, u10⟩ := hC.sx.2.2.2.2.2.1
  obtain ⟨v2, hv2, cf2, kf2, fi2, f2, a2, cell2, w0, w1, w2, w3, w4, w5, w6, w7, w8, w9, w10⟩ := hC.sx.2.2.2.2.2.2
  have e1 := Option.some.inj (u1.symm.trans Y.unassigned)
  simp only [Prod.mk.injEq] at e1
  obtain ⟨rfl, rfl, rfl, rfl⟩ := e1
  have e2 := Option.some.inj (w1.symm.trans Y.sentinel)
  simp only [Prod.mk.injEq] at e2
  obtain ⟨-, rfl, rfl, rfl⟩ := e2
  cases Option.some.inj (u3.symm.trans Lk.statics)
  cases Option.some.inj (w3.symm.trans Lk.statics)
  cases Option.some.inj (u4.symm.trans w4)
  have hlt : Th.aS < E.bs := Nat.lt_of_not_le u10
  have hcellS : T.heap[Th.aS]? = some cellS := (hR.2.1 _ hlt).trans u4
  have hknownS : cellS.vm ≠ .unknown := by intro hu; rw [hu] at u5; cases u5
  have hneS : Th.aS ≠ E.bs + b := Nat.ne_of_lt (Nat.lt_of_lt_of_le hlt (Nat.le_add_right _ _))
  obtain ⟨ci198, i198, fB, hk198, hg198, ha198, hsB, -, hnB, htB, hffB⟩ := Cond.ownField (t := .object "java/lang/Object") Y.found Lk.cls (by decide +kernel) (hw _ q1580 args) (hw _ q1579 args) e.platform hpl
  obtain ⟨tyC, dC, hdC, hdnC⟩ := Cond.laysAt hfound hkX Y.cause (hw _ q1570 args)
  obtain ⟨tyS, dS, hdS, hdnS⟩ := Cond.laysAt hfound hkX Y.stack (hw _ q1572 args)
  obtain ⟨tyP, dP, hdP, hdnP⟩ := Cond.laysAt hfound hkX Y.supp (hw _ q1574 args)
  obtain ⟨tyB, dB, hdB, hdnB⟩ := Cond.laysAt hfound hkX hffB (hw _ q1578 args)
  have bC := Cond.laysApart hdB hdC hdnB hdnC (by rw [hnB, Y.causeName]; decide)
  have bS := Cond.laysApart hdB hdS hdnB hdnS (by rw [hnB, Y.stackName]; decide)
  have bP := Cond.laysApart hdB hdP hdnB hdnP (by rw [hnB, Y.suppName]; decide)
  have hskip : SkipFacts Th e.platform s (fun u => u) ⟨v1, hv1⟩ ((preparedCellV Th.toThrowableT (freshCell (E.D.1 12) kX) (E.bs + b) ⟨v1, hv1⟩ ⟨v2, hv2⟩).withEntry T.cur) :=
    ⟨{ ci198 := ci198, i198 := i198, fBack := fB }, ⟨hk198, hg198, ha198, hsB⟩, by
      have := fresh_default (c := E.D.1 12) tyB
      rw [htB] at this
      simpa [preparedCellV, Cell.setSlot, Cell.withEntry, Array.getElem?_setIfInBounds, bC, bS, bP, bC.symm, bS.symm, bP.symm, defaultValue] using this, fun _ _ => rfl⟩
  have hown : s.vm.findClass "SearchHouse$Fault" = some m.cls := by rw [← hy]; exact hC.own
  obtain ⟨tm, methC, cdC, kC, vm₁, hnC, -, -, -, -, -, -, -, hW₁, st1⟩ := Steps.initCold (tb := p.tables) (e := e) (below := below) (s := s) (U := T) X.here hC.ex X.warmed hpl hown (t := Bundle.init0 "java/lang/RuntimeException") rfl rfl (by decide +kernel)
    (hw _ q1602 args) (hw _ q1603 args) (bytes := Bundle.five) (maxL := 1) (hw _ q1604 args)
    (f := F0 m pc ls ((aO b :: st).map (cv E))) rfl (a := E.bs + b) (rest := st.map (cv E)) rfl (by rw [hC.by]; exact hd)
  cases Option.some.inj (hnC.symm.trans hP1m)
  have X₁ := X.noted hW₁
  have hsum : ((st.map (cv E)).map fun v => v.category).sum = awords st := by
    clear hst st1 hl h
    induction st with
    | nil => rfl
    | cons v vs ih => simp only [List.map_cons, List.sum_cons, awords, cv_cat] at ih ⊢; omega
  have hfr := hC.fr
  have hloc := hC.lo
  obtain ⟨vm₂, X₂, st2⟩ := X₁.ctorPlainOffV hC.ex (g := F0 m pc ls (st.map (cv E))) rfl (by rw [hC.ml]; exact hl.1) Th Lk Z LZ (P1 :: Ps)
    (fun P hP => by rcases List.mem_cons.mp hP with rfl | hP; exact L1; exact hL P hP) ⟨hlink1, hlink⟩ (u0 := ⟨v1, hv1⟩) (sen := ⟨v2, hv2⟩) (self := E.bs + b) (cell := freshCell (E.D.1 12) kX) (cellS := cellS)
    hcell (fun _ => by simp) (by simp) rfl rfl hsel0 hselF hcellS hneS hknownS u9 w9
    (Takes.of_laid hkX hord tyC (by rw [Y.causeType]; rfl)) (Takes.of_laid hkX hord tyS (by rw [Y.stackType]; exact fits_refV_array _ ⟨v1, hv1⟩)) (Takes.of_laid hkX hord tyP (by rw [Y.suppType]; exact fits_refV_object _ ⟨v2, hv2⟩)) Y.objLocals hskip htr [] (by rw [hC.by]; exact hd)
    (by simp only [List.length_cons, hlen]; simp only [List.length_nil]; omega) (by simp only [List.length_cons, hlen, List.length_nil]; show 2 * 0 + ((st.map (cv E)).map fun v => v.category).sum + _ ≤ _; rw [hsum]; omega)
  have hbn : b < σ.n := hR.2.2.2.lt hs (by omega)
  have hbT : E.bs + b < T.heap.size := by rw [hR.1]; omega
  obtain ⟨cf, kf, fi, f, hi, hsl⟩ := hS 0 (by decide)
  have hi : s.fieldFound? "SearchHouse$Fault" "code" "I" = some (cf, kf, fi, f) := hi
  have hfn : f.name = "code" := (State.fieldFound?_type hi (t := .int) (by decide +kernel)).1
  have aC : f.slot ≠ Th.fCause.slot := u_apart (Or.inr (hw _ q1616 args)) (Or.inl (hw _ q1570 args)) hi Y.cause (by rw [hfn, Y.causeName]; decide)
  have aS : f.slot ≠ Th.fStack.slot := u_apart (Or.inr (hw _ q1616 args)) (Or.inl (hw _ q1572 args)) hi Y.stack (by rw [hfn, Y.stackName]; decide)
  have aP : f.slot ≠ Th.fSupp.slot := u_apart (Or.inr (hw _ q1616 args)) (Or.inl (hw _ q1574 args)) hi Y.supp (by rw [hfn, Y.suppName]; decide)
  have hva : va_at E.D clV (E.bs + b, zct E σ b) (T.heap.setIfInBounds (E.bs + b) ((preparedCellV Th.toThrowableT (freshCell (E.D.1 12) kX) (E.bs + b) ⟨v1, hv1⟩ ⟨v2, hv2⟩).setSlot Th.fStack.slot v1)) := by
    have he : (zws E σ)[b]? = _ := (zws_at hbn).trans (by rw [zct_o (ci := 12) hs])
    obtain ⟨r, h1, cell, q1, q2, q3, q4⟩ := hR.2.2.1 b _ he
    cases Option.some.inj (h1.symm.trans (cl_V hq))
    cases Option.some.inj (q1.symm.trans hcell)
    rw [zct_o (ci := 12) hs]
    refine ⟨_, cl_V hq, _, Array.getElem?_setIfInBounds_self_of_lt hbT, rfl, rfl, fun k hk => ?_⟩
    have hk0 : k = 0 := by have hk : k < 1 := hk; omega
    subst hk0
    rw [← q4 0 (by decide), ← hsl]
    simp [preparedCellV, Cell.setSlot, Array.getElem?_setIfInBounds, aC.symm, aS.symm, aP.symm, blank]
  have hlo4 : ∀ q ∈ [(⟨E.bs + b, Th.fCause.slot⟩ : Loc), ⟨E.bs + b, Th.fStack.slot⟩, ⟨E.bs + b, Th.fSupp.slot⟩, ⟨E.bs + b, Th.fStack.slot⟩], XA E q.base := by
    intro q hq
    simp only [List.mem_cons, List.not_mem_nil, or_false] at hq
    rcases hq with rfl | rfl | rfl | rfl <;> exact Nat.le_add_right _ _
  obtain ⟨t, b1, b2⟩ := h p l e R s m args below meth c n0 s0 σ0 hC _ _ (hR.same (a := b) (H1 := (T.heap.setIfInBounds (E.bs + b) ((preparedCellV Th.toThrowableT (freshCell (E.D.1 12) kX) (E.bs + b) ⟨v1, hv1⟩ ⟨v2, hv2⟩).setSlot Th.fStack.slot v1))) hbn hva (by simp) (fun q hq => by rw [Array.getElem?_setIfInBounds_ne (Ne.symm hq)])) (t_lL hlo hlo4) hN ls hl _ rfl X₂
  exact ⟨t, st1 _ (fun acts => by rw [doInvoke_state]; exact st2 _ b1), b2⟩
/-- the constructor of Fault -/
theorem cc_fault {b z : Nat} {x : Int} (hs : σ.sh b = (112, z)) (h5 : 5 ≤ d) (hx : inR x) : CCh b E mX12_init d [aO b, aI x] σ (fun r τ => r = .inl none ∧ τ = σ.wI b 0 x) := by
  refine vh_aload_n (q := 0) (pc' := 1) 0 ⟨by decide +kernel, rfl⟩ rfl rfl ?_
  refine vh_superF (pc' := 4) ⟨by decide +kernel, rfl⟩ rfl hs h5 (by decide) ?_
  refine v_aload_n (q := 0) (pc' := 5) 0 ⟨by decide +kernel, rfl⟩ rfl rfl ?_
  refine v_iload_n (q := 1) (pc' := 6) 1 ⟨by decide +kernel, rfl⟩ rfl rfl ?_
  refine w_putI (pc' := 9) (ci := 12) (kf := 0) (kz := 0) ⟨by decide +kernel, rfl⟩ hs rfl (by decide) rfl (Or.inr (Or.inr ⟨rfl, rfl, rfl, q1609⟩)) (fun _ _ => rfl) hx rfl rfl (fun σ' e _ => ?_)
  exact v_vret ⟨by decide +kernel, rfl⟩ rfl ⟨rfl, e⟩
theorem fault_end {index b : Nat} {x : Int} (hd : DD M.cc pc 3 pc' (.invokespecial index)) (hlink : Cond.methodLink M.y.cls index yX12_init ∈ lw_all) (hF : SF σ (σ.al 112 7)) (eb : b = σ.n) (h5 : 5 ≤ d) (hx : inR x) (hst : awords st ≤ 20)
    (h : ∀ σ', σ' = (σ.al 112 7).wI b 0 x → SF σ σ' → VV E M (d + 1) pc' L (aO b :: st) σ' Q) : VVh σ.n E M (d + 1) pc L (aI x :: aO b :: aO b :: st) (σ.al 112 7) Q := by
  subst eb
  refine v_invIh (M' := mX12_init) (d' := d) (as := [aI x]) (st := aO σ.n :: st) hd rfl okX12_init (Or.inl hlink) q1600 q1601 rfl npX12_init (cc_fault (z := 7) (if_pos rfl) h5 hx) (show 1 + (1 + 0) ≤ 2 by decide) (by omega) ?_ ?_ ?_
  · simp only [awords, acat]; show 1 + _ + (2 + 11) ≤ 100; omega
  · rintro v σ' ⟨h1, h2⟩ h3
    cases h1
    exact h σ' h2 (hF.tr h3)
  · rintro a σ' ⟨h1, -⟩
    cases h1
theorem fault_X4_wrong {b : Nat} {x1 : Int} {o : Nat} (eb : b = σ.n) (h1 : σ.n + 1 ≤ NC) (h2 : ssum σ + 7 ≤ NS) (h5 : 5 ≤ d) (hx : inR (-10 - x1)) (h : ∀ σ', σ' = (σ.al 112 7).wI b 0 (-10 - x1) → SF σ σ' → VV E mX4_wrong (d + 1) 11 [(0, aO o), (1, aI x1)] [aO b] σ' Q) : VV E mX4_wrong (d + 1) 0 [(0, aO o), (1, aI x1)] [] σ Q := by
  refine v_newh (pc' := 3) ⟨by decide +kernel, rfl⟩ q1559 h1 h2 (fun hF => ?_)
  subst eb
  refine vh_dup (pc' := 4) ⟨by decide +kernel, rfl⟩ rfl ?_
  refine vh_bipush (pc' := 6) (x := -10) ⟨by decide +kernel, rfl⟩ (by decide) ?_
  refine vh_iload_n (q := 1) (pc' := 7) 1 ⟨by decide +kernel, rfl⟩ rfl rfl ?_
  refine vh_isub (pc' := 8) ⟨by decide +kernel, rfl⟩ ?_
  exact fault_end ⟨by decide +kernel, rfl⟩ q1599 hF rfl h5 hx (by decide) h
theorem fault_c {b p1 p2 p3 index ix2 : Nat} {x : Int} (hd0 : DD M.cc pc 3 p1 (.new index)) (hcl : Cond.classLink M.y.cls index "SearchHouse$Fault" ∈ lw_all) (hd1 : DD M.cc p1 1 p2 .dup) (hd2 : DD M.cc p2 2 p3 (.bipush x)) (h8 : -128 ≤ x ∧ x ≤ 127) (hd3 : DD M.cc p3 3 pc' (.invokespecial ix2)) (hlink : Cond.methodLink M.y.cls ix2 yX12_init ∈ lw_all) (hst : awords st ≤ 20)
    (eb : b = σ.n) (h1 : σ.n + 1 ≤ NC) (h2 : ssum σ + 7 ≤ NS) (h5 : 5 ≤ d) (h : ∀ σ', σ' = (σ.al 112 7).wI b 0 x → SF σ σ' → VV E M (d + 1) pc' L (aO b :: st) σ' Q) : VV E M (d + 1) pc L st σ Q := by
  refine v_newh hd0 hcl h1 h2 (fun hF => ?_)
  subst eb
  refine vh_dup hd1 rfl ?_
  refine vh_bipush hd2 h8 ?_
  exact fault_end hd3 hlink hF rfl h5 ⟨by omega, by omega⟩ hst h
end FSUP
