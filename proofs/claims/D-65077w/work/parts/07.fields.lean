/-! ROWS of VV: fields -/
abbrev QC : Type := vw_C × (Nat → FieldType)
def clOk (q : QC) : Prop := (∀ w ∈ u_ws q.1.1 q.1.2.1 q.1.2.2, w ∈ lw_all) ∧ (∀ k, k < q.1.2.2 → parseFieldDescriptor (q.1.2.1 k).2.2.1 = some (q.2 k)) ∧ ∀ a, a < q.1.2.2 → ∀ b, b < q.1.2.2 → a ≠ b → (q.1.2.1 a).2.1 ≠ (q.1.2.1 b).2.1
theorem clT_fd : ∀ q ∈ clT, ∀ k, k < q.1.2.2 → ¬ q.2 k = .float ∧ ¬ q.2 k = .double := by
  unfold clT
  refine List.forall_mem_cons.mpr ⟨by decide +kernel, List.forall_mem_cons.mpr ⟨by decide +kernel, List.forall_mem_cons.mpr ⟨by decide +kernel, List.forall_mem_cons.mpr ⟨by decide +kernel, List.forall_mem_cons.mpr ⟨by decide +kernel, List.forall_mem_cons.mpr ⟨by decide +kernel, List.forall_mem_cons.mpr ⟨by decide +kernel, List.forall_mem_cons.mpr ⟨by decide +kernel, List.forall_mem_cons.mpr ⟨by decide +kernel, List.forall_mem_cons.mpr ⟨by decide +kernel, List.forall_mem_cons.mpr ⟨by decide +kernel, List.forall_mem_cons.mpr ⟨by decide +kernel, List.forall_mem_cons.mpr ⟨by decide +kernel, List.forall_mem_cons.mpr ⟨by decide +kernel, fun _ h => absurd h List.not_mem_nil⟩⟩⟩⟩⟩⟩⟩⟩⟩⟩⟩⟩⟩⟩
theorem clT_ok : ∀ q ∈ clT, clOk q := by
  unfold clT
  refine List.forall_mem_cons.mpr ⟨⟨in_X0, tyX0_ok, nmX0⟩, List.forall_mem_cons.mpr ⟨⟨in_X1, tyX1_ok, nmX1⟩, List.forall_mem_cons.mpr ⟨⟨in_X2, tyX2_ok, nmX2⟩, List.forall_mem_cons.mpr ⟨⟨in_X3, tyX3_ok, nmX3⟩, List.forall_mem_cons.mpr ⟨⟨in_X4, tyX4_ok, nmX4⟩, List.forall_mem_cons.mpr ⟨⟨in_X5, tyX5_ok, nmX5⟩, List.forall_mem_cons.mpr ⟨⟨in_X6, tyX6_ok, nmX6⟩, List.forall_mem_cons.mpr ⟨⟨in_X7, tyX7_ok, nmX7⟩, List.forall_mem_cons.mpr ⟨⟨in_X8, tyX8_ok, nmX8⟩, List.forall_mem_cons.mpr ⟨⟨in_X9, tyX9_ok, nmX9⟩, List.forall_mem_cons.mpr ⟨⟨in_X10, tyX10_ok, nmX10⟩, List.forall_mem_cons.mpr ⟨⟨in_X11, tyX11_ok, nmX11⟩, List.forall_mem_cons.mpr ⟨⟨lw_in _ [1616] (by decide +kernel) (by decide +kernel), by decide +kernel, by decide +kernel⟩, List.forall_mem_cons.mpr ⟨⟨fun _ h => absurd h List.not_mem_nil, fun _ h => absurd h (Nat.not_lt_zero _), fun _ h => absurd h (Nat.not_lt_zero _)⟩, fun _ h => absurd h List.not_mem_nil⟩⟩⟩⟩⟩⟩⟩⟩⟩⟩⟩⟩⟩⟩
theorem cl_ok {ci : Nat} {q : QC} (h : clT[ci]? = some q) : clOk q := clT_ok q (List.mem_of_getElem? h)
theorem cl_V {ci : Nat} {q : QC} (h : clT[ci]? = some q) : clV[ci]? = some (q.1.1, q.1.2.1, q.1.2.2) := by rw [clV, List.getElem?_map, h]; rfl
theorem zct_o {E : XE} {σ : Sto} {a ci z : Nat} (hs : σ.sh a = (100 + ci, z)) : zct E σ a = .inr (ci, zfs E σ a ci) := by
  rw [zct, hs]
  show (if 100 + ci < 100 then _ else (Sum.inr (100 + ci - 100, zfs E σ a (100 + ci - 100)) : va_E)) = _
  rw [if_neg (by omega), Nat.add_sub_cancel_left]
theorem zfs_eq {E : XE} {σ : Sto} {a ci : Nat} {q : QC} (hq : clT[ci]? = some q) : zfs E σ a ci = (List.range q.1.2.2).map fun k => zfv E (q.2 k) (σ.I a k) (σ.R a k) := by
  rw [zfs, hq]
theorem zfs_get {E : XE} {σ : Sto} {a ci kf : Nat} {q : QC} (hq : clT[ci]? = some q) (hk : kf < q.1.2.2) : (zfs E σ a ci)[kf]? = some (zfv E (q.2 kf) (σ.I a kf) (σ.R a kf)) := by
  rw [zfs_eq hq, List.getElem?_map, List.getElem?_range hk]; rfl
theorem zfs_set {E : XE} {σ σ' : Sto} {a ci kf : Nat} {q : QC} (hq : clT[ci]? = some q) (hk : kf < q.1.2.2) {v : Value} (h1 : zfv E (q.2 kf) (σ'.I a kf) (σ'.R a kf) = v) (h2 : ∀ j : Nat, j ≠ kf → σ'.I a j = σ.I a j ∧ σ'.R a j = σ.R a j) : (zfs E σ a ci).set kf v = zfs E σ' a ci := by
  apply List.ext_getElem?
  intro j
  rw [List.getElem?_set, zfs_eq hq, zfs_eq hq]
  by_cases hj : kf = j
  · subst hj
    rw [if_pos rfl, if_pos (by simpa using hk), List.getElem?_map, List.getElem?_range hk, ← h1]; rfl
  · rw [if_neg hj, List.getElem?_map, List.getElem?_map]
    cases hr : (List.range q.1.2.2)[j]? with
    | none => rfl
    | some b =>
      have hb : b = j := by
        obtain ⟨h3, h4⟩ := List.getElem?_eq_some_iff.mp hr
        rw [List.getElem_range] at h4
        exact h4.symm
      subst hb
      simp only [Option.map_some]
      rw [(h2 b (fun z => hj z.symm)).1, (h2 b (fun z => hj z.symm)).2]
section VFLD
variable {E : XE} {M : MI} {d pc pc' : Nat} {L L' : List (Nat × AV)} {st : List AV} {σ : Sto} {Q : Res → Sto → Prop}
theorem v_get {a ci kf z index : Nat} {q : QC} {v : AV} (hd : DD M.cc pc 3 pc' (.getfield index)) (hs : σ.sh a = (100 + ci, z)) (hq : clT[ci]? = some q) (hk : kf < q.1.2.2) (hw : Cond.fieldLink M.y.cls index (q.1.2.1 kf).1 (q.1.2.1 kf).2.1 (q.1.2.1 kf).2.2.1 ∈ lw_all) (hv : zfv E (q.2 kf) (σ.I a kf) (σ.R a kf) = cv E v) (h : inT (q.2 kf) (σ.I a kf) → VV E M d pc' L (v :: st) σ Q) : VV E M d pc L (aO a :: st) σ Q := by
  obtain ⟨hd, rfl⟩ := hd
  intro p l e R s m args below meth c n0 s0 σ0 hC H locs hR hlo hN ls hl
  have hT := hR.2.2.2
  have ha : (zws E σ)[a]? = _ := (zws_at (hT.lt hs (by omega))).trans (by rw [zct_o hs])
  have ok := cl_ok hq
  refine va_get (D := E.D) (ci := ci) (v := cv E v) hC.ex hC.by (Ts := lw_all) (fun w h => hC.wd w h args) ok.1 hC.own hC.kk hR.2.2.1 a ha (cl_V hq) kf hk (hC.wd _ hw args) (fun _ h9 => h9) (by rw [← hv]; exact zfs_get hq hk) hd ?_
  refine h ?_ p l e R s m args below meth c n0 s0 σ0 hC H locs hR hlo hN ls hl
  have := hT.1 a kf
  rw [hs, zty] at this
  simp only [show ¬ (100 + ci < 100) by omega, if_false, Nat.add_sub_cancel_left, hq] at this
  exact this
theorem v_getN {a ci kf z index : Nat} {q : QC} {v : AV} {host : String} (hd : DD M.cc pc 3 pc' (.getfield index)) (hs : σ.sh a = (100 + ci, z)) (hq : clT[ci]? = some q) (hk : kf < q.1.2.2) (hw : Cond.fieldLinkNest M.y.cls index (q.1.2.1 kf).1 (q.1.2.1 kf).2.1 (q.1.2.1 kf).2.2.1 host ∈ lw_tbl) (hv : zfv E (q.2 kf) (σ.I a kf) (σ.R a kf) = cv E v) (h : inT (q.2 kf) (σ.I a kf) → VV E M d pc' L (v :: st) σ Q) : VV E M d pc L (aO a :: st) σ Q := by
  obtain ⟨hd, rfl⟩ := hd
  intro p l e R s m args below meth c n0 s0 σ0 hC H locs hR hlo hN ls hl
  have hT := hR.2.2.2
  have ha : (zws E σ)[a]? = _ := (zws_at (hT.lt hs (by omega))).trans (by rw [zct_o hs])
  have ok := cl_ok hq
  refine va_getN (D := E.D) (ci := ci) (v := cv E v) hC.ex hC.by (Ts := lw_all) (fun w h => hC.wd w h args) ok.1 hC.own hC.kk hR.2.2.1 a ha (cl_V hq) kf hk (va_Nw.use rfl (hC.ns _ (nst_in hw rfl))) (fun _ h9 => h9) (by rw [← hv]; exact zfs_get hq hk) hd ?_
  refine h ?_ p l e R s m args below meth c n0 s0 σ0 hC H locs hR hlo hN ls hl
  have := hT.1 a kf
  rw [hs, zty] at this
  simp only [show ¬ (100 + ci < 100) by omega, if_false, Nat.add_sub_cancel_left, hq] at this
  exact this
/-- a write to a field, as the heap sees it -/
theorem z_put {a ci kf z index : Nat} {q : QC} {v : Value} {p : Program} {l : Launch} {e : Env} {R : Room} {s : State} {m : MethodId} {args : Array Value} {below : List Frame} {meth : Method} {c : Code} {H : Heap} {locs : List Loc} {k n : Nat} {QQ : State → Prop} {ls : Array Slot} {rest : List Value} {d n0 s0 : Nat} (hC : Cy E M d n0 s0 p R s m meth c) (hR : Rel E σ H)
    (hd : decode M.cc pc = .ok (.putfield index, 3)) (hs : σ.sh a = (100 + ci, z)) (hq : clT[ci]? = some q) (hk : kf < q.1.2.2)
    (hw : ((q.1.2.1 kf).2.2.2 = false ∧ Cond.fieldLink M.y.cls index (q.1.2.1 kf).1 (q.1.2.1 kf).2.1 (q.1.2.1 kf).2.2.1 ∈ lw_all) ∨ ((q.1.2.1 kf).2.2.2 = false ∧ ∃ host, Cond.fieldLinkNest M.y.cls index (q.1.2.1 kf).1 (q.1.2.1 kf).2.1 (q.1.2.1 kf).2.2.1 host ∈ lw_tbl) ∨ ((q.1.2.1 kf).2.2.2 = true ∧ M.y.name = "<init>" ∧ (q.1.2.1 kf).1 = M.y.cls ∧ Cond.fieldLink M.y.cls index (q.1.2.1 kf).1 (q.1.2.1 kf).2.1 (q.1.2.1 kf).2.2.1 ∈ lw_all))
    (hn : narrow (q.2 kf) v = v) (hf : fits (q.2 kf) v = true)
    (kk : ∀ (H1 : Heap) (j : Nat), va_at E.D clV (E.bs + a, .inr (ci, (zfs E σ a ci).set kf v)) H1 → H1.size = H.size → (∀ x : Nat, x ≠ E.bs + a → H1[x]? = H[x]?) → W p l e R s m args below meth c H1 (locs ++ [(⟨E.bs + a, j⟩ : Loc)]) k n QQ (F0 m (pc + 3) ls rest)) :
    W p l e R s m args below meth c H locs k n QQ (F0 m pc ls (v :: .ref (E.bs + a) :: rest)) := by
  have hT := hR.2.2.2
  have he : (zws E σ)[a]? = _ := (zws_at (hT.lt hs (by omega))).trans (by rw [zct_o hs])
  have ok := cl_ok hq
  have hts : ∀ w ∈ lw_all, w.before args s = true := fun w h => hC.wd w h args
  have hc := cl_V hq
  have hap := va_apart (own := M.y.cls) hts ok.1 q.2 ok.2.1 ok.2.2 hC.kk hc
  obtain ⟨r, h1, cell, q1, q2, q3, q4⟩ := hR.2.2.1 a _ he
  have hr : r = (q.1.1, q.1.2.1, q.1.2.2) := Option.some.inj (h1.symm.trans hc)
  subst hr
  obtain ⟨hS, hfc, kC, hkC, hkind⟩ := hC.kk.1 ci _ hc
  obtain ⟨cf, kf1, fi, f, hi, hsl⟩ := hS kf hk
  have hlay := hts _ (ok.1 _ (u_in_lay hk))
  have hst := (u_facts hfc hkC (u_lays hts ok.1 hk) hi).1
  have hlen : kf < (zfs E σ a ci).length := by rw [zfs_eq hq]; simpa using hk
  have fin : ∀ H' : Heap, H'[E.bs + a]? = some (cell.setSlot (E.D.2 ci kf) v) → va_at E.D clV (E.bs + a, .inr (ci, (zfs E σ a ci).set kf v)) H' := fun H' e1 =>
    ⟨_, hc, t_OB.to (V := updV (vp_V (zfs E σ a ci)) kf v) ⟨_, e1, q2, q3, t_set q4 hap hk v⟩ (fun j _ => vp_updV_set hlen v j)⟩
  unfold u_lay at hlay
  rcases hw with ⟨hfin, hw⟩ | ⟨hfin, host, hw⟩ | ⟨hfin, hin2, hdecl, hw⟩
  · rw [if_neg (by rw [hfin]; decide)] at hlay
    have h6 := u_store hfc hkC hkind hlay hi (ok.2.1 kf hk) hn hf
    refine W.putK hC.ex hC.by (f := f) ⟨hC.own, hts _ hw, ⟨_, _, _, hi⟩, hst⟩ (by rw [q2]; exact h6) q1 q3 (by rw [hsl]; exact k2_hasslot (q4 kf hk)) rfl rfl hd fun H' e1 e2 e3 => ?_
    rw [hsl] at e1
    exact kk H' _ (fin H' e1) e2 e3
  · rw [if_neg (by rw [hfin]; decide)] at hlay
    have h6 := u_store hfc hkC hkind hlay hi (ok.2.1 kf hk) hn hf
    refine va_WputK hC.ex hC.by (f := f) hC.own (va_Nw.use rfl (hC.ns _ (nst_in hw rfl))) hi hst (by rw [q2]; exact h6) q1 q3 (by rw [hsl]; exact k2_hasslot (q4 kf hk)) rfl rfl hd fun H' e1 e2 e3 => ?_
    rw [hsl] at e1
    exact kk H' _ (fin H' e1) e2 e3
  · rw [if_pos hfin] at hlay
    have hcf : m.cls = cf := by
      obtain ⟨_, _, c', _, _, _, -, -, hf', -, -, -, hown2, -⟩ := Cond.laysFinal_spec hlay
      have e1 : c' = cf := by have := hi.symm.trans hf'; simp at this; exact this.1.symm
      rw [hdecl] at hown2
      rw [← e1]; exact Option.some.inj (hC.own.symm.trans hown2)
    have h6 := u_fits hfc hkC hkind (Or.inr hlay) hi (ok.2.1 kf hk) hn hf
    refine W.putFinK hC.ex hC.by hC.own (hts _ hw) hi hst hcf (by rw [hC.nm]; exact hin2) (by rw [q2]; exact h6) q1 q3 (by rw [hsl]; exact k2_hasslot (q4 kf hk)) rfl rfl hd fun H' e1 e2 e3 => ?_
    rw [hsl] at e1
    exact kk H' _ (fin H' e1) e2 e3
/-- which field is written, and by whose right -/
def PutW (M : MI) (index kf : Nat) (q : QC) : Prop := ((q.1.2.1 kf).2.2.2 = false ∧ Cond.fieldLink M.y.cls index (q.1.2.1 kf).1 (q.1.2.1 kf).2.1 (q.1.2.1 kf).2.2.1 ∈ lw_all) ∨ ((q.1.2.1 kf).2.2.2 = false ∧ ∃ host, Cond.fieldLinkNest M.y.cls index (q.1.2.1 kf).1 (q.1.2.1 kf).2.1 (q.1.2.1 kf).2.2.1 host ∈ lw_tbl) ∨ ((q.1.2.1 kf).2.2.2 = true ∧ M.y.name = "<init>" ∧ (q.1.2.1 kf).1 = M.y.cls ∧ Cond.fieldLink M.y.cls index (q.1.2.1 kf).1 (q.1.2.1 kf).2.1 (q.1.2.1 kf).2.2.1 ∈ lw_all)
theorem zty_o {a ci kf z : Nat} {q : QC} (hs : σ.sh a = (100 + ci, z)) (hq : clT[ci]? = some q) : zty (σ.sh a) (kf : Int) = q.2 kf := by
  rw [hs, zty]
  simp only [show ¬ (100 + ci < 100) by omega, if_false, Nat.add_sub_cancel_left, hq]
  rfl
theorem v_putI {a ci kf z index : Nat} {q : QC} {x : Int} (hd : DD M.cc pc 3 pc' (.putfield index)) (hs : σ.sh a = (100 + ci, z)) (hq : clT[ci]? = some q) (hk : kf < q.1.2.2) (hw : PutW M index kf q) (hz : ∀ x r, zfv E (q.2 kf) x r = .int (Int32.ofInt x)) (hx : inT (q.2 kf) x) (hn : narrow (q.2 kf) (.int (Int32.ofInt x)) = .int (Int32.ofInt x)) (hf : fits (q.2 kf) (.int (Int32.ofInt x)) = true) (h : VV E M d pc' L st (σ.wI a kf x) Q) : VV E M d pc L (aI x :: aO a :: st) σ Q := by
  obtain ⟨hd, rfl⟩ := hd
  intro p l e R s m args below meth c n0 s0 σ0 hC H locs hR hlo hN ls hl
  have hT := hR.2.2.2
  have hn' := hT.lt hs (by omega)
  refine z_put hC hR hd hs hq hk hw hn hf (fun H1 j h1 h2 h3 => ?_)
  refine h p l e R s m args below meth c n0 s0 σ0 hC H1 _ (hR.wI hn' (hT.wI (by rw [zty_o hs hq]; exact hx)) ?_ h2 h3) (locs_put hlo) hN ls hl
  rw [zct_o (σ := σ.wI a kf x) hs, ← zfs_set (σ := σ) (σ' := σ.wI a kf x) (v := .int (Int32.ofInt x)) hq hk (by rw [hz]; show Value.int (Int32.ofInt (up2 σ.I a kf x a kf)) = _; rw [up2_at]) (fun j hj => ⟨up2_nj (by omega), rfl⟩)]
  exact h1
theorem v_putL {a ci kf z index : Nat} {q : QC} {x : Int} (hd : DD M.cc pc 3 pc' (.putfield index)) (hs : σ.sh a = (100 + ci, z)) (hq : clT[ci]? = some q) (hk : kf < q.1.2.2) (hw : PutW M index kf q) (hz : q.2 kf = .long) (hx : inL x) (h : VV E M d pc' L st (σ.wI a kf x) Q) : VV E M d pc L (aL x :: aO a :: st) σ Q := by
  obtain ⟨hd, rfl⟩ := hd
  intro p l e R s m args below meth c n0 s0 σ0 hC H locs hR hlo hN ls hl
  have hT := hR.2.2.2
  have hn' := hT.lt hs (by omega)
  refine z_put hC hR hd hs hq hk hw (by rw [hz]; rfl) (by rw [hz]; rfl) (fun H1 j h1 h2 h3 => ?_)
  refine h p l e R s m args below meth c n0 s0 σ0 hC H1 _ (hR.wI hn' (hT.wI (by rw [zty_o hs hq, hz]; exact hx)) ?_ h2 h3) (locs_put hlo) hN ls hl
  rw [zct_o (σ := σ.wI a kf x) hs, ← zfs_set (σ := σ) (σ' := σ.wI a kf x) (v := .long (Int64.ofInt x)) hq hk (by rw [hz]; show Value.long (Int64.ofInt (up2 σ.I a kf x a kf)) = _; rw [up2_at]) (fun j hj => ⟨up2_nj (by omega), rfl⟩)]
  exact h1
theorem v_putR {a b ci kf z index : Nat} {q : QC} (hd : DD M.cc pc 3 pc' (.putfield index)) (hs : σ.sh a = (100 + ci, z)) (hq : clT[ci]? = some q) (hk : kf < q.1.2.2) (hw : PutW M index kf q) (hz : ∀ x r, zfv E (q.2 kf) x r = va_rf (r.map (E.bs + ·))) (hn : narrow (q.2 kf) (.ref (E.bs + b)) = .ref (E.bs + b)) (hf : fits (q.2 kf) (.ref (E.bs + b)) = true) (hy : dyn a kf ∨ σ.R a kf = none) (h : VV E M d pc' L st (σ.wR a kf (some b)) Q) : VV E M d pc L (aO b :: aO a :: st) σ Q := by
  obtain ⟨hd, rfl⟩ := hd
  intro p l e R s m args below meth c n0 s0 σ0 hC H locs hR hlo hN ls hl
  have hT := hR.2.2.2
  have hn' := hT.lt hs (by omega)
  refine z_put hC hR hd hs hq hk hw hn hf (fun H1 j h1 h2 h3 => ?_)
  refine h p l e R s m args below meth c n0 s0 σ0 hC H1 _ (hR.wR hn' ?_ h2 h3) (locs_put hlo) (hN.wR hy) ls hl
  rw [zct_o (σ := σ.wR a kf (some b)) hs, ← zfs_set (σ := σ) (σ' := σ.wR a kf (some b)) (v := .ref (E.bs + b)) hq hk (by rw [hz]; show va_rf ((up2 σ.R a kf (some b) a kf).map _) = _; rw [up2_at]; rfl) (fun j hj => ⟨rfl, up2_nj (by omega)⟩)]
  exact h1
end VFLD
