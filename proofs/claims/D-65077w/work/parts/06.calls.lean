/-! ROWS of VV: ends and calls -/
theorem within_up {s : State} {f : Frame} {below : List Frame} (h : Within s (f :: below)) : Within s below := by
  obtain ⟨above, h1, h2, h3⟩ := h
  refine ⟨above ++ [f], by rw [h1]; simp, by simp, fun a q => ?_⟩
  cases above with
  | nil => exact h2 rfl
  | cons x t =>
    have := congrArg List.length q
    simp at this
theorem steps_up {tb : Tables} {e : Env} {f : Frame} {below : List Frame} {s s' : State} (h : Steps tb e (f :: below) s s') : Steps tb e below s s' := by
  obtain ⟨n, h1, h2⟩ := h
  exact ⟨n, h1, fun k hk => within_up (h2 k hk)⟩
section VEND
variable {E : XE} {M : MI} {d pc pc' : Nat} {L L' : List (Nat × AV)} {st : List AV} {σ : Sto} {Q : Res → Sto → Prop}
theorem zq_of {below : List Frame} {s t : State} {args : Array Value} {H : Heap} {r : Res} {n0 s0 : Nat} {σ0 : Sto} (hN : Nx n0 s0 σ0 σ) (hR : Rel E σ H) (hq : Q r σ) (h : MQ below (fun _ _ o t => o = oc E r ∧ t.heap = H) args s (σ.n - n0) (ssum σ - s0) (XA E) t) : ZQ E below s n0 s0 σ0 Q t := by
  obtain ⟨o, h1, h2, ⟨rfl, h4⟩, Ls, h5, h6⟩ := h
  exact ⟨r, σ, Ls, h1, h2, hq, by rw [h4]; exact hR, hN, h5.2.1, h5.2.2, h6⟩
theorem W.mono {p : Program} {l : Launch} {e : Env} {R : Room} {s : State} {m : MethodId} {args : Array Value} {below : List Frame} {meth : Method} {c : Code} {H : Heap} {locs : List Loc} {cells slots : Nat} {Q Q' : State → Prop} {g : JFrame} (hq : ∀ t, Q t → Q' t) (h : W p l e R s m args below meth c H locs cells slots Q g) : W p l e R s m args below meth c H locs cells slots Q' g := by
  intro T hT X
  obtain ⟨t, h1, h2⟩ := h T hT X
  exact ⟨t, h1, hq t h2⟩
theorem v_iret {x : Int} {ty : FieldType} (hd : DD M.cc pc 1 pc' .ireturn) (hr : M.ret = some ty) (hx : narrow ty (.int (Int32.ofInt x)) = .int (Int32.ofInt x)) (hq : Q (.inl (some (aI x))) σ) : VV E M d pc L [aI x] σ Q := by
  obtain ⟨hd, rfl⟩ := hd
  intro p l e R s m args below meth c n0 s0 σ0 hC H locs hR hlo hN ls hl
  refine W.mono (fun t h => zq_of (args := args) (r := .inl (some (aI x))) hN hR hq h) ?_
  exact W.zret hC.ex hC.by (by rw [hC.rt]; exact hr) hx (fun t ht _ => ⟨rfl, ht⟩) hlo hd hC.lk
theorem v_lret {x : Int} (hd : DD M.cc pc 1 pc' .lreturn) (hr : M.ret = some .long) (hq : Q (.inl (some (aL x))) σ) : VV E M d pc L [aL x] σ Q := by
  obtain ⟨hd, rfl⟩ := hd
  intro p l e R s m args below meth c n0 s0 σ0 hC H locs hR hlo hN ls hl
  refine W.mono (fun t h => zq_of (args := args) (r := .inl (some (aL x))) hN hR hq h) ?_
  exact W.lret hC.ex hC.by (by rw [hC.rt]; exact hr) (fun t ht _ => ⟨rfl, ht⟩) hlo hd hC.lk
theorem v_vret (hd : DD M.cc pc 1 pc' .return_) (hr : M.ret = none) (hq : Q (.inl none) σ) : VV E M d pc L [] σ Q := by
  obtain ⟨hd, rfl⟩ := hd
  intro p l e R s m args below meth c n0 s0 σ0 hC H locs hR hlo hN ls hl
  refine W.mono (fun t h => zq_of (args := args) (r := .inl none) hN hR hq h) ?_
  exact W.vret hC.ex hC.by (by rw [hC.rt]; exact hr) (fun t ht _ => ⟨rfl, ht⟩) hlo hd hC.lk
theorem v_aret {a : Nat} {ty : FieldType} (hd : DD M.cc pc 1 pc' .areturn) (hr : M.ret = some ty) (hty : (∃ n, ty = .object n) ∨ ∃ t, ty = .array t) (hq : Q (.inl (some (aO a))) σ) : VV E M d pc L [aO a] σ Q := by
  obtain ⟨hd, rfl⟩ := hd
  intro p l e R s m args below meth c n0 s0 σ0 hC H locs hR hlo hN ls hl
  refine W.mono (fun t h => zq_of (args := args) (r := .inl (some (aO a))) hN hR hq h) ?_
  exact W.aret hC.ex hC.by (by rw [hC.rt]; exact hr) hty (Or.inr ⟨_, rfl⟩) (fun t ht _ => ⟨rfl, ht⟩) hlo hd hC.lk
/-- fewer demands on the end -/
theorem VV.mono {Q' : Res → Sto → Prop} (hq : ∀ r σ', Q r σ' → Q' r σ') (h : VV E M d pc L st σ Q) : VV E M d pc L st σ Q' := by
  intro p l e R s m args below meth c n0 s0 σ0 hC H locs hR hlo hN ls hl
  refine W.mono (fun t ht => ?_) (h p l e R s m args below meth c n0 s0 σ0 hC H locs hR hlo hN ls hl)
  obtain ⟨r, σ', Ls, h1, h2, h3, h4⟩ := ht
  exact ⟨r, σ', Ls, h1, h2, hq r σ' h3, h4⟩
/-- the store's types hold: they may be used -/
theorem VV.ti (h : TI σ → VV E M d pc L st σ Q) : VV E M d pc L st σ Q := by
  intro p l e R s m args below meth c n0 s0 σ0 hC H locs hR hlo hN ls hl
  exact h hR.2.2.2 p l e R s m args below meth c n0 s0 σ0 hC H locs hR hlo hN ls hl
end VEND
/-- a method of ours: its code stands in the tables -/
def Mok (M : MI) : Prop := (plainName M.y.cls = true ∨ (NativeRow.find? Jvm.natives M.y.cls M.y.name M.y.desc).isNone = true) ∧ Cond.initialized M.y.cls ∈ lw_all ∧ ((Cond.code M.y M.cc M.nL M.ret ∈ lw_all ∧ M.hh = []) ∨ Cond.codeWith M.y M.cc M.nL M.ret M.hh ∈ lw_all) ∧ M.y.cls ≠ "java/lang/invoke/MethodHandle" ∧ M.y.cls ≠ "java/lang/invoke/VarHandle"
/-- the words hold in every later state -/
theorem words_later {s U : State} (h : ∀ w ∈ lw_all, ∀ a : Array Value, w.before a s = true) (hW : s.WarmedH U.vm) : ∀ w ∈ lw_all, ∀ a : Array Value, w.before a U = true := by
  intro w hw a
  exact word_at (args := #[]) hW (good_of_word (List.mem_filter.mp hw).2) (h w hw #[])
theorem nest_later {s U : State} (h : ∀ w ∈ lw_nst, va_Nw w s) (hW : s.WarmedH U.vm) : ∀ w ∈ lw_nst, va_Nw w U := by
  intro w hw
  have h1 := (List.mem_filter.mp hw).2
  have h2 := h w hw
  cases w with
  | fieldLinkNest => exact va_Nw.warmF hW h2
  | methodLinkNest => exact va_Nw.warmM hW h2
  | castable => exact va_Nw.warmC hW h2
  | declares => exact va_Nw.warmD hW h2
  | arrayOver ty =>
    cases ty with
    | object C => exact va_AO.moved hW.alike h2
    | _ => cases h1
  | _ => cases h1
theorem Mok.spec {M : MI} (hM : Mok M) {U : State} (hw : ∀ w ∈ lw_all, ∀ a : Array Value, w.before a U = true) : ∃ mk meth c, U.methodNamed? M.y = some mk ∧ U.vm.method? mk = some meth ∧ meth.code = some c ∧ c.code = M.cc ∧ c.maxLocals = M.nL ∧ meth.sig.returnType = M.ret ∧ meth.locks = false ∧ hhOf c = M.hh ∧ parseMethodDescriptor M.y.desc = some meth.sig := by
  rcases hM.2.2.1 with ⟨h1, h2⟩ | h1
  · have h3 := hw _ h1 #[]
    obtain ⟨mk, hn⟩ := Cond.code_named h3
    obtain ⟨meth, c, a1, a2, a3, a4, a5, a6, a7, a8⟩ := Cond.code_spec hn h3
    refine ⟨mk, meth, c, hn, a1, a2, a3, a4, a5, a6, ?_, a8⟩
    rw [h2, hhOf]
    have : c.exceptionTable = #[] := Array.isEmpty_iff.mp a7
    rw [this]; rfl
  · obtain ⟨mk, meth, c, a0, a1, a2, a3, a4, a5, a6, a7, a8⟩ := Cond.codeWith_spec (hw _ h1 #[])
    exact ⟨mk, meth, c, a0, a1, a2, a3, a4, a6, a7, a5, a8⟩
/-- the locals with which a method begins -/
def argL : Nat → List AV → List (Nat × AV)
  | _, [] => []
  | i, v :: vs => (i, v) :: argL (if acat v = 2 then i + 2 else i + 1) vs
theorem argL_map (E : XE) : ∀ (vs : List AV) (i : Nat), (argL i vs).map (cvL E) = lv_args i (vs.map (cv E)) := by
  intro vs
  induction vs with
  | nil => intro i; rfl
  | cons v vs ih =>
    intro i
    show (i, cv E v) :: (argL _ vs).map (cvL E) = (i, cv E v) :: lv_args _ (vs.map (cv E))
    rw [ih, cv_cat]
/-- a contract of a method: from its entry, with the arguments as -/
abbrev CC (E : XE) (M : MI) (d : Nat) (as : List AV) (σ : Sto) (Q : Res → Sto → Prop) : Prop := VV E M d 0 (argL 0 as) [] σ Q
def awords : List AV → Nat
  | [] => 0
  | v :: vs => acat v + awords vs
theorem awords_sl (E : XE) (vs : List AV) : (lg_sl (vs.map (cv E))).length = awords vs := by
  induction vs with
  | nil => rfl
  | cons v vs ih =>
    rw [List.map_cons, awords, ← ih]
    rcases v with x | x | (_ | a) | i | v
    · simp [lg_sl, cv, acat, Value.category]; omega
    · simp [lg_sl, cv, acat, Value.category]; omega
    · simp [lg_sl, cv, acat, Value.category]; omega
    · simp [lg_sl, cv, acat, Value.category]; omega
    · simp [lg_sl, cv, acat, Value.category]; omega
    · cases v <;> simp [lg_sl, cv, acat, Value.category] <;> omega
set_option maxHeartbeats 1000000 in
theorem z_call {E : XE} {M M' : MI} {d d' n0 s0 : Nat} {as : List AV} {σ : Sto} {Q' : Res → Sto → Prop} {p : Program} {l : LN} {e : Env} {R : Room} {s : State} {m : MethodId} {args : Array Value} {below : List Frame} {meth : Method} {c : Code} {T : State} {locs : List Loc}
    (hC : Cy E M d n0 s0 p R s m meth c) (X : Stand p l.1 e R s m args below meth c T locs (σ.n - n0) (ssum σ - s0)) {σ0 : Sto} (hR : Rel E σ T.heap) (hN : Nx n0 s0 σ0 σ)
    {g : JFrame} (hg : g.method = m) (hgs : g.locals.size = c.maxLocals) {ig : Instr} {len : Nat} (hdg : decode c.code g.pc = .ok (ig, len))
    (hM : Mok M') {mk : MethodId} (hmk : T.methodNamed? M'.y = some mk) (hcc : CC E M' d' as σ Q') (hfit : awords as ≤ M'.nL)
    (hd : d' + 1 ≤ d) (hst : 2 * g.monitorRoom + (g.stack.map fun v => v.category).sum + (M'.nL + 11) ≤ 100) :
    ∃ (t : State) (r : Res) (σ' : Sto) (T' : State) (Ls : List Loc), Steps p.tables e below (doInvoke e (T.setTop g) [] mk (as.map (cv E)).toArray).1 t ∧ Q' r σ' ∧ Stand p l.1 e R s m args below meth c T' (locs ++ Ls) (σ'.n - n0) (ssum σ' - s0) ∧ (∀ q ∈ Ls, XA E q.base) ∧ Rel E σ' T'.heap ∧ Nx n0 s0 σ0 σ' ∧ SF σ σ' ∧
      ((∃ v, r = .inl v ∧ t = T'.setTop { g with pc := g.pc + len, stack := (v.map (cv E)).toList ++ g.stack }) ∨ (∃ a, r = .inr a ∧ t = (T'.setTop g).pushFrame (.throwing (E.bs + a)))) := by
  have hwT := words_later hC.wd X.warmed
  obtain ⟨mk', methk, ck, a0, a1, a2, a3, a4, a5, a6, a7, a8⟩ := hM.spec hwT
  cases hmk.symm.trans a0
  have hpk : T.plainMethod mk := by
    intro kk hkk
    obtain ⟨kY, hkY, hnm⟩ := className_of_methodNamed a0
    cases hkk.symm.trans hkY
    rcases hM.1 with h | h
    · exact plain_of_name (by rw [hnm]; exact h)
    · rw [Bool.or_eq_true]
      right
      unfold rowless
      have hm : kk.methods[mk.idx]? = some methk := by
        have a1' : (T.vm.classes[mk.cls]?).bind (fun k => k.methods[mk.idx]?) = some methk := a1
        rw [hkk] at a1'
        exact a1'
      obtain ⟨n1, n2⟩ := name_of_methodNamed a0 a1
      rw [hm]
      show (NativeRow.find? Jvm.natives kk.name methk.name methk.desc).isNone = true
      rw [hnm, n1, n2]; exact h
  have hcn : σ.n ≤ NC := hR.2.2.2.2.2.2.2.1
  have hcs : ssum σ ≤ NS := hR.2.2.2.2.2.2.2.2
  have hn0' := hN.1
  have hs0' := hN.2.1
  have h1 := hC.fr
  have h2 := hC.lo
  have h3 := hC.nc
  have h4 := hC.nS
  obtain ⟨Y, hdo⟩ := X.into hg hgs hdg (as.map (cv E)).toArray (R' := rmZ d' (NC - σ.n) (NS - ssum σ)) a1 a2 a6 hpk (by show d' + 1 ≤ R.frames; omega) (by show _ + _ + _ + 100 * d' ≤ R.locals; rw [a4]; omega) (by show σ.n - n0 + (NC - σ.n) ≤ R.cells; omega) (by show ssum σ - s0 + (NS - ssum σ) ≤ R.slots; omega)
  have hCx : Cy E M' d' σ.n (ssum σ) p (rmZ d' (NC - σ.n) (NS - ssum σ)) (T.calling g mk (as.map (cv E)).toArray) mk methk ck := by
    refine ⟨⟨hC.ex, a3, a4, ?_, words_later hC.wd X.warmed, a5, a6, ?_, a7, nest_later hC.ns X.warmed⟩, va_K.moved X.warmed.alike hC.kk, hR.1, Nat.le_refl _, Nat.le_refl _, by show NC ≤ σ.n + (NC - σ.n); omega, by show NS ≤ ssum σ + (NS - ssum σ); omega, hC.sx.warm X.warmed, hC.b0⟩
    · exact findClass_of_methodNamed a0
    · exact (name_of_methodNamed a0 a1).1
  have hl := lv_entry (as.map (cv E)) (n := M'.nL) (by rw [awords_sl]; exact hfit)
  rw [← argL_map E as 0] at hl
  have hV := hcc p l e (rmZ d' (NC - σ.n) (NS - ssum σ)) (T.calling g mk (as.map (cv E)).toArray) mk (as.map (cv E)).toArray (.java g :: below) methk ck σ.n (ssum σ) σ hCx T.heap [] hR (fun q hq => by cases hq) ⟨Nat.le_refl _, Nat.le_refl _, SF.rf⟩ _ hl
  rw [Nat.sub_self, Nat.sub_self] at hV
  obtain ⟨t, hst1, r, σ', Ls, hrun, hend, hq, hR', ⟨hn', hs', hSF⟩, hW', hsame, hLs⟩ := hV _ (by rfl) Y
  have hsteps : Steps p.tables e below (doInvoke e (T.setTop g) [] mk (as.map (cv E)).toArray).1 t := by
    rw [hdo []]
    refine steps_up (f := .java g) ?_
    rw [a4, lg_entry_eq]
    rw [a4, lg_entry_eq] at hst1
    exact hst1
  have hn0 := hN.1
  have hs0 := hN.2.1
  have e1 : σ.n - n0 + (σ'.n - σ.n) = σ'.n - n0 := by omega
  have e2 : ssum σ - s0 + (ssum σ' - ssum σ) = ssum σ' - s0 := by omega
  rcases r with v | a
  · obtain ⟨T', Y1, Y2, Y3, Y4⟩ := X.outOf hg hdg (mk := mk) (a := (as.map (cv E)).toArray) (v := v.map (cv E)) hend hW' hsame
    rw [e1, e2] at Y1
    refine ⟨t, .inl v, σ', T', Ls, hsteps, hq, Y1, hLs, ?_, ⟨by omega, by omega, hN.2.2.tr hSF⟩, hSF, Or.inl ⟨v, rfl, Y4⟩⟩
    rw [Y4] at hR'; exact hR'
  · obtain ⟨T', Y1, Y2, Y3, Y4⟩ := X.outOfThrown hg (mk := mk) (a := (as.map (cv E)).toArray) (x := E.bs + a) hend hW' hsame
    rw [e1, e2] at Y1
    refine ⟨t, .inr a, σ', T', Ls, hsteps, hq, Y1, hLs, ?_, ⟨by omega, by omega, hN.2.2.tr hSF⟩, hSF, Or.inr ⟨a, rfl, Y4⟩⟩
    rw [Y4, throwing_heap] at hR'; exact hR'
