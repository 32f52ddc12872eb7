/-! ROWS of VV: constants, locals, operands, arithmetic, branches -/
section VROWS
variable {E : XE} {M : MI} {d pc pc' : Nat} {L L' : List (Nat × AV)} {st : List AV} {σ : Sto} {Q : Res → Sto → Prop}
theorem v_iconst {x : Int} (hd : DD M.cc pc 1 pc' (.iconst x)) (h : VV E M d pc' L (aI (x) :: st) σ Q) : VV E M d pc L (st) σ Q := by
  obtain ⟨hd, rfl⟩ := hd
  intro p l e R s m args below meth c n0 s0 σ0 hC H locs hR hlo hN ls hl
  show W _ _ _ _ _ _ _ _ _ _ _ _ _ _ _ (F0 m pc ls (st.map (cv E)))
  refine lv_iconst hC.ex hC.by hd rfl ?_
  exact h p l e R s m args below meth c n0 s0 σ0 hC H locs hR hlo hN ls hl
theorem v_bipush {x : Int} (hd : DD M.cc pc 2 pc' (.bipush x)) (h8 : -128 ≤ x ∧ x ≤ 127) (h : VV E M d pc' L (aI (x) :: st) σ Q) : VV E M d pc L (st) σ Q := by
  obtain ⟨hd, rfl⟩ := hd
  intro p l e R s m args below meth c n0 s0 σ0 hC H locs hR hlo hN ls hl
  show W _ _ _ _ _ _ _ _ _ _ _ _ _ _ _ (F0 m pc ls (st.map (cv E)))
  refine lv_bipush hC.ex hC.by hd (i8_lit h8.1 h8.2) ?_
  exact h p l e R s m args below meth c n0 s0 σ0 hC H locs hR hlo hN ls hl
theorem v_sipush {x : Int} (hd : DD M.cc pc 3 pc' (.sipush x)) (h8 : -32768 ≤ x ∧ x ≤ 32767) (h : VV E M d pc' L (aI (x) :: st) σ Q) : VV E M d pc L (st) σ Q := by
  obtain ⟨hd, rfl⟩ := hd
  intro p l e R s m args below meth c n0 s0 σ0 hC H locs hR hlo hN ls hl
  show W _ _ _ _ _ _ _ _ _ _ _ _ _ _ _ (F0 m pc ls (st.map (cv E)))
  refine lv_sipush hC.ex hC.by hd (i16_lit h8.1 h8.2) ?_
  exact h p l e R s m args below meth c n0 s0 σ0 hC H locs hR hlo hN ls hl
theorem v_lconst {x : Fin 2} (hd : DD M.cc pc 1 pc' (.lconst x)) (h : VV E M d pc' L (aL (((x : Nat) : Int)) :: st) σ Q) : VV E M d pc L (st) σ Q := by
  obtain ⟨hd, rfl⟩ := hd
  intro p l e R s m args below meth c n0 s0 σ0 hC H locs hR hlo hN ls hl
  show W _ _ _ _ _ _ _ _ _ _ _ _ _ _ _ (F0 m pc ls (st.map (cv E)))
  refine lv_lconst hC.ex hC.by hd Int64.ofInt_eq_ofNat.symm ?_
  exact h p l e R s m args below meth c n0 s0 σ0 hC H locs hR hlo hN ls hl
theorem v_ldc {x : Int} {index : Nat} {v : Int32} (hd : DD M.cc pc 2 pc' (.ldc index)) (hw : Cond.constant M.y.cls index v ∈ lw_all) (hv : Int32.ofInt x = v) (h : VV E M d pc' L (aI x :: st) σ Q) : VV E M d pc L st σ Q := by
  obtain ⟨hd, rfl⟩ := hd
  subst hv
  intro p l e R s m args below meth c n0 s0 σ0 hC H locs hR hlo hN ls hl
  refine lv_ldc hC.ex hC.by hC.own (hC.wd _ hw args) hd ?_
  exact h p l e R s m args below meth c n0 s0 σ0 hC H locs hR hlo hN ls hl
theorem v_ldc_w {x : Int} {index : Nat} {v : Int32} (hd : DD M.cc pc 3 pc' (.ldc_w index)) (hw : Cond.constant M.y.cls index v ∈ lw_all) (hv : Int32.ofInt x = v) (h : VV E M d pc' L (aI x :: st) σ Q) : VV E M d pc L st σ Q := by
  obtain ⟨hd, rfl⟩ := hd
  subst hv
  intro p l e R s m args below meth c n0 s0 σ0 hC H locs hR hlo hN ls hl
  refine lv_ldcw hC.ex hC.by hC.own (hC.wd _ hw args) hd ?_
  exact h p l e R s m args below meth c n0 s0 σ0 hC H locs hR hlo hN ls hl
theorem v_ldc2 {x : Int} {index : Nat} {v : Int64} (hd : DD M.cc pc 3 pc' (.ldc2_w index)) (hw : Cond.constantLong M.y.cls index v ∈ lw_all) (hv : Int64.ofInt x = v) (h : VV E M d pc' L (aL x :: st) σ Q) : VV E M d pc L st σ Q := by
  obtain ⟨hd, rfl⟩ := hd
  subst hv
  intro p l e R s m args below meth c n0 s0 σ0 hC H locs hR hlo hN ls hl
  refine lv_ldc2 hC.ex hC.by hC.own (hC.wd _ hw args) hd ?_
  exact h p l e R s m args below meth c n0 s0 σ0 hC H locs hR hlo hN ls hl
theorem v_iload {i : Nat} {x : Int} (j : Nat) (hd : DD M.cc pc 2 pc' (.iload i)) (hj : L[j]? = some (i, aI x)) (h : VV E M d pc' L (aI x :: st) σ Q) : VV E M d pc L st σ Q := by
  obtain ⟨hd, rfl⟩ := hd
  intro p l e R s m args below meth c n0 s0 σ0 hC H locs hR hlo hN ls hl
  have hj' : (L.map (cvL E))[j]? = some (i, cv E (aI x)) := by rw [List.getElem?_map, hj]; rfl
  refine lv_iload hC.ex hC.by hd (lv_at hl j hj') ?_
  exact h p l e R s m args below meth c n0 s0 σ0 hC H locs hR hlo hN ls hl
theorem v_iload_n {i : Nat} {q : Fin 4} {x : Int} (j : Nat) (hd : DD M.cc pc 1 pc' (.iload_n q)) (hi : (q : Nat) = i) (hj : L[j]? = some (i, aI x)) (h : VV E M d pc' L (aI x :: st) σ Q) : VV E M d pc L st σ Q := by
  obtain ⟨hd, rfl⟩ := hd
  intro p l e R s m args below meth c n0 s0 σ0 hC H locs hR hlo hN ls hl
  have hj' : (L.map (cvL E))[j]? = some (i, cv E (aI x)) := by rw [List.getElem?_map, hj]; rfl
  refine lv_iload_n hC.ex hC.by hd hi (lv_at hl j hj') ?_
  exact h p l e R s m args below meth c n0 s0 σ0 hC H locs hR hlo hN ls hl
theorem v_lload {i : Nat} {x : Int} (j : Nat) (hd : DD M.cc pc 2 pc' (.lload i)) (hj : L[j]? = some (i, aL x)) (h : VV E M d pc' L (aL x :: st) σ Q) : VV E M d pc L st σ Q := by
  obtain ⟨hd, rfl⟩ := hd
  intro p l e R s m args below meth c n0 s0 σ0 hC H locs hR hlo hN ls hl
  have hj' : (L.map (cvL E))[j]? = some (i, cv E (aL x)) := by rw [List.getElem?_map, hj]; rfl
  refine lv_lload hC.ex hC.by hd (lv_at hl j hj') ?_
  exact h p l e R s m args below meth c n0 s0 σ0 hC H locs hR hlo hN ls hl
theorem v_lload_n {i : Nat} {q : Fin 4} {x : Int} (j : Nat) (hd : DD M.cc pc 1 pc' (.lload_n q)) (hi : (q : Nat) = i) (hj : L[j]? = some (i, aL x)) (h : VV E M d pc' L (aL x :: st) σ Q) : VV E M d pc L st σ Q := by
  obtain ⟨hd, rfl⟩ := hd
  intro p l e R s m args below meth c n0 s0 σ0 hC H locs hR hlo hN ls hl
  have hj' : (L.map (cvL E))[j]? = some (i, cv E (aL x)) := by rw [List.getElem?_map, hj]; rfl
  refine lv_lload_n hC.ex hC.by hd hi (lv_at hl j hj') ?_
  exact h p l e R s m args below meth c n0 s0 σ0 hC H locs hR hlo hN ls hl
theorem v_aload {i : Nat} {x : Nat} (j : Nat) (hd : DD M.cc pc 2 pc' (.aload i)) (hj : L[j]? = some (i, aO x)) (h : VV E M d pc' L (aO x :: st) σ Q) : VV E M d pc L st σ Q := by
  obtain ⟨hd, rfl⟩ := hd
  intro p l e R s m args below meth c n0 s0 σ0 hC H locs hR hlo hN ls hl
  have hj' : (L.map (cvL E))[j]? = some (i, cv E (aO x)) := by rw [List.getElem?_map, hj]; rfl
  refine lv_aload hC.ex hC.by hd (lv_at hl j hj') ?_
  exact h p l e R s m args below meth c n0 s0 σ0 hC H locs hR hlo hN ls hl
theorem v_aload_n {i : Nat} {q : Fin 4} {x : Nat} (j : Nat) (hd : DD M.cc pc 1 pc' (.aload_n q)) (hi : (q : Nat) = i) (hj : L[j]? = some (i, aO x)) (h : VV E M d pc' L (aO x :: st) σ Q) : VV E M d pc L st σ Q := by
  obtain ⟨hd, rfl⟩ := hd
  intro p l e R s m args below meth c n0 s0 σ0 hC H locs hR hlo hN ls hl
  have hj' : (L.map (cvL E))[j]? = some (i, cv E (aO x)) := by rw [List.getElem?_map, hj]; rfl
  refine lv_aload_n hC.ex hC.by hd hi (lv_at hl j hj') ?_
  exact h p l e R s m args below meth c n0 s0 σ0 hC H locs hR hlo hN ls hl
theorem v_sload {i : Nat} {x : Nat} (j : Nat) (hd : DD M.cc pc 2 pc' (.aload i)) (hj : L[j]? = some (i, aS x)) (h : VV E M d pc' L (aS x :: st) σ Q) : VV E M d pc L st σ Q := by
  obtain ⟨hd, rfl⟩ := hd
  intro p l e R s m args below meth c n0 s0 σ0 hC H locs hR hlo hN ls hl
  have hj' : (L.map (cvL E))[j]? = some (i, cv E (aS x)) := by rw [List.getElem?_map, hj]; rfl
  refine lv_aload hC.ex hC.by hd (lv_at hl j hj') ?_
  exact h p l e R s m args below meth c n0 s0 σ0 hC H locs hR hlo hN ls hl
theorem v_sload_n {i : Nat} {q : Fin 4} {x : Nat} (j : Nat) (hd : DD M.cc pc 1 pc' (.aload_n q)) (hi : (q : Nat) = i) (hj : L[j]? = some (i, aS x)) (h : VV E M d pc' L (aS x :: st) σ Q) : VV E M d pc L st σ Q := by
  obtain ⟨hd, rfl⟩ := hd
  intro p l e R s m args below meth c n0 s0 σ0 hC H locs hR hlo hN ls hl
  have hj' : (L.map (cvL E))[j]? = some (i, cv E (aS x)) := by rw [List.getElem?_map, hj]; rfl
  refine lv_aload_n hC.ex hC.by hd hi (lv_at hl j hj') ?_
  exact h p l e R s m args below meth c n0 s0 σ0 hC H locs hR hlo hN ls hl
/-- locals behind a store -/
def stL (i : Nat) (v : AV) (L : List (Nat × AV)) : List (Nat × AV) := (i, v) :: L.filter (fun q => !(q.1 == i) && !(q.1 + 1 == i && acat q.2 == 2))
def stL2 (i : Nat) (v : AV) (L : List (Nat × AV)) : List (Nat × AV) := (i, v) :: L.filter (fun q => !(q.1 == i) && (!(q.1 == i + 1) && !(q.1 + 1 == i && acat q.2 == 2)))
theorem stL_map (i : Nat) (v : AV) (L : List (Nat × AV)) : (i, cv E v) :: (L.map (cvL E)).filter (fun q => !(q.1 == i) && !(q.1 + 1 == i && q.2.category == 2)) = (stL i v L).map (cvL E) := by
  rw [stL, List.map_cons, List.filter_map]; congr 2; refine List.filter_congr fun q _ => ?_; simp [cvL, cv_cat]
theorem stL2_map (i : Nat) (v : AV) (L : List (Nat × AV)) : (i, cv E v) :: (L.map (cvL E)).filter (fun q => !(q.1 == i) && (!(q.1 == i + 1) && !(q.1 + 1 == i && q.2.category == 2))) = (stL2 i v L).map (cvL E) := by
  rw [stL2, List.map_cons, List.filter_map]; congr 2; refine List.filter_congr fun q _ => ?_; simp [cvL, cv_cat]
theorem v_istore {i : Nat} {x : Int} (hd : DD M.cc pc 2 pc' (.istore i)) (hn : i < M.nL) (hL : stL i (aI x) L = L') (h : VV E M d pc' L' st σ Q) : VV E M d pc L (aI x :: st) σ Q := by
  obtain ⟨hd, rfl⟩ := hd
  subst hL
  intro p l e R s m args below meth c n0 s0 σ0 hC H locs hR hlo hN ls hl
  refine lv_istore hC.ex hC.by hd hl hn (stL_map (E := E) i (aI x) L) (fun ls hl => ?_)
  exact h p l e R s m args below meth c n0 s0 σ0 hC H locs hR hlo hN ls hl
theorem v_istore_n {i : Nat} {q : Fin 4} {x : Int} (hd : DD M.cc pc 1 pc' (.istore_n q)) (hi : (q : Nat) = i) (hn : i < M.nL) (hL : stL i (aI x) L = L') (h : VV E M d pc' L' st σ Q) : VV E M d pc L (aI x :: st) σ Q := by
  obtain ⟨hd, rfl⟩ := hd
  subst hL
  intro p l e R s m args below meth c n0 s0 σ0 hC H locs hR hlo hN ls hl
  refine lv_istore_n hC.ex hC.by hd hi hl hn (stL_map (E := E) i (aI x) L) (fun ls hl => ?_)
  exact h p l e R s m args below meth c n0 s0 σ0 hC H locs hR hlo hN ls hl
theorem v_lstore {i : Nat} {x : Int} (hd : DD M.cc pc 2 pc' (.lstore i)) (hn : i + 1 < M.nL) (hL : stL2 i (aL x) L = L') (h : VV E M d pc' L' st σ Q) : VV E M d pc L (aL x :: st) σ Q := by
  obtain ⟨hd, rfl⟩ := hd
  subst hL
  intro p l e R s m args below meth c n0 s0 σ0 hC H locs hR hlo hN ls hl
  refine lv_lstore hC.ex hC.by hd hl hn (stL2_map (E := E) i (aL x) L) (fun ls hl => ?_)
  exact h p l e R s m args below meth c n0 s0 σ0 hC H locs hR hlo hN ls hl
theorem v_lstore_n {i : Nat} {q : Fin 4} {x : Int} (hd : DD M.cc pc 1 pc' (.lstore_n q)) (hi : (q : Nat) = i) (hn : i + 1 < M.nL) (hL : stL2 i (aL x) L = L') (h : VV E M d pc' L' st σ Q) : VV E M d pc L (aL x :: st) σ Q := by
  obtain ⟨hd, rfl⟩ := hd
  subst hL
  intro p l e R s m args below meth c n0 s0 σ0 hC H locs hR hlo hN ls hl
  refine lv_lstore_n hC.ex hC.by hd hi hl hn (stL2_map (E := E) i (aL x) L) (fun ls hl => ?_)
  exact h p l e R s m args below meth c n0 s0 σ0 hC H locs hR hlo hN ls hl
theorem v_astore {i : Nat} {x : Nat} (hd : DD M.cc pc 2 pc' (.astore i)) (hn : i < M.nL) (hL : stL i (aO x) L = L') (h : VV E M d pc' L' st σ Q) : VV E M d pc L (aO x :: st) σ Q := by
  obtain ⟨hd, rfl⟩ := hd
  subst hL
  intro p l e R s m args below meth c n0 s0 σ0 hC H locs hR hlo hN ls hl
  refine lv_astore hC.ex hC.by hd hl hn (stL_map (E := E) i (aO x) L) (fun ls hl => ?_)
  exact h p l e R s m args below meth c n0 s0 σ0 hC H locs hR hlo hN ls hl
theorem v_astore_n {i : Nat} {q : Fin 4} {x : Nat} (hd : DD M.cc pc 1 pc' (.astore_n q)) (hi : (q : Nat) = i) (hn : i < M.nL) (hL : stL i (aO x) L = L') (h : VV E M d pc' L' st σ Q) : VV E M d pc L (aO x :: st) σ Q := by
  obtain ⟨hd, rfl⟩ := hd
  subst hL
  intro p l e R s m args below meth c n0 s0 σ0 hC H locs hR hlo hN ls hl
  refine lv_astore_n hC.ex hC.by hd hi hl hn (stL_map (E := E) i (aO x) L) (fun ls hl => ?_)
  exact h p l e R s m args below meth c n0 s0 σ0 hC H locs hR hlo hN ls hl
theorem v_iinc {i : Nat} {x z : Int} (j : Nat) (hd : DD M.cc pc 3 pc' (.iinc i z)) (hj : L[j]? = some (i, aI x)) (hn : i < M.nL) (hL : stL i (aI (x + z)) L = L') (h : VV E M d pc' L' st σ Q) : VV E M d pc L st σ Q := by
  obtain ⟨hd, rfl⟩ := hd
  subst hL
  intro p l e R s m args below meth c n0 s0 σ0 hC H locs hR hlo hN ls hl
  have hj' : (L.map (cvL E))[j]? = some (i, cv E (aI x)) := by rw [List.getElem?_map, hj]; rfl
  refine lv_iinc hC.ex hC.by hd hl hj' (v := Int32.ofInt (x + z)) (by rw [Int32.ofInt_add]) hn (stL_map (E := E) i (aI (x + z)) L) (fun ls hl => ?_)
  exact h p l e R s m args below meth c n0 s0 σ0 hC H locs hR hlo hN ls hl
theorem v_pick (ks : List Nat) (hL : ks.filterMap (fun j => L[j]?) = L') (h : VV E M d pc L' st σ Q) : VV E M d pc L st σ Q := by
  subst hL
  intro p l e R s m args below meth c n0 s0 σ0 hC H locs hR hlo hN ls hl
  have hl2 : lv_has ls M.nL ((ks.filterMap (fun j => L[j]?)).map (cvL E)) := by
    refine lv_sub hl ks ?_
    rw [lv_pick, List.map_filterMap]; congr 1; funext j; rw [List.getElem?_map]
  exact h p l e R s m args below meth c n0 s0 σ0 hC H locs hR hlo hN ls hl2
theorem v_iadd {x y : Int} (hd : DD M.cc pc 1 pc' (.iadd)) (h : VV E M d pc' L (aI (x + y) :: st) σ Q) : VV E M d pc L (aI (y) :: aI (x) :: st) σ Q := by
  obtain ⟨hd, rfl⟩ := hd
  intro p l e R s m args below meth c n0 s0 σ0 hC H locs hR hlo hN ls hl
  show W _ _ _ _ _ _ _ _ _ _ _ _ _ _ _ (F0 m pc ls (.int (Int32.ofInt (y)) :: .int (Int32.ofInt (x)) :: st.map (cv E)))
  refine lv_iadd hC.ex hC.by hd ?_
  rw [← Int32.ofInt_add]
  exact h p l e R s m args below meth c n0 s0 σ0 hC H locs hR hlo hN ls hl
theorem v_ladd {x y : Int} (hd : DD M.cc pc 1 pc' (.ladd)) (h : VV E M d pc' L (aL (x + y) :: st) σ Q) : VV E M d pc L (aL (y) :: aL (x) :: st) σ Q := by
  obtain ⟨hd, rfl⟩ := hd
  intro p l e R s m args below meth c n0 s0 σ0 hC H locs hR hlo hN ls hl
  show W _ _ _ _ _ _ _ _ _ _ _ _ _ _ _ (F0 m pc ls (.long (Int64.ofInt (y)) :: .long (Int64.ofInt (x)) :: st.map (cv E)))
  refine lv_ladd hC.ex hC.by hd ?_
  rw [← Int64.ofInt_add]
  exact h p l e R s m args below meth c n0 s0 σ0 hC H locs hR hlo hN ls hl
theorem v_isub {x y : Int} (hd : DD M.cc pc 1 pc' (.isub)) (h : VV E M d pc' L (aI (x - y) :: st) σ Q) : VV E M d pc L (aI (y) :: aI (x) :: st) σ Q := by
  obtain ⟨hd, rfl⟩ := hd
  intro p l e R s m args below meth c n0 s0 σ0 hC H locs hR hlo hN ls hl
  show W _ _ _ _ _ _ _ _ _ _ _ _ _ _ _ (F0 m pc ls (.int (Int32.ofInt (y)) :: .int (Int32.ofInt (x)) :: st.map (cv E)))
  refine lv_isub hC.ex hC.by hd ?_
  rw [← Int32.ofInt_sub]
  exact h p l e R s m args below meth c n0 s0 σ0 hC H locs hR hlo hN ls hl
theorem v_lsub {x y : Int} (hd : DD M.cc pc 1 pc' (.lsub)) (h : VV E M d pc' L (aL (x - y) :: st) σ Q) : VV E M d pc L (aL (y) :: aL (x) :: st) σ Q := by
  obtain ⟨hd, rfl⟩ := hd
  intro p l e R s m args below meth c n0 s0 σ0 hC H locs hR hlo hN ls hl
  show W _ _ _ _ _ _ _ _ _ _ _ _ _ _ _ (F0 m pc ls (.long (Int64.ofInt (y)) :: .long (Int64.ofInt (x)) :: st.map (cv E)))
  refine lv_lsub hC.ex hC.by hd ?_
  rw [← Int64.ofInt_sub]
  exact h p l e R s m args below meth c n0 s0 σ0 hC H locs hR hlo hN ls hl
theorem v_imul {x y : Int} (hd : DD M.cc pc 1 pc' (.imul)) (h : VV E M d pc' L (aI (x * y) :: st) σ Q) : VV E M d pc L (aI (y) :: aI (x) :: st) σ Q := by
  obtain ⟨hd, rfl⟩ := hd
  intro p l e R s m args below meth c n0 s0 σ0 hC H locs hR hlo hN ls hl
  show W _ _ _ _ _ _ _ _ _ _ _ _ _ _ _ (F0 m pc ls (.int (Int32.ofInt (y)) :: .int (Int32.ofInt (x)) :: st.map (cv E)))
  refine lv_imul hC.ex hC.by hd ?_
  rw [← Int32.ofInt_mul]
  exact h p l e R s m args below meth c n0 s0 σ0 hC H locs hR hlo hN ls hl
theorem v_lmul {x y : Int} (hd : DD M.cc pc 1 pc' (.lmul)) (h : VV E M d pc' L (aL (x * y) :: st) σ Q) : VV E M d pc L (aL (y) :: aL (x) :: st) σ Q := by
  obtain ⟨hd, rfl⟩ := hd
  intro p l e R s m args below meth c n0 s0 σ0 hC H locs hR hlo hN ls hl
  show W _ _ _ _ _ _ _ _ _ _ _ _ _ _ _ (F0 m pc ls (.long (Int64.ofInt (y)) :: .long (Int64.ofInt (x)) :: st.map (cv E)))
  refine lv_lmul hC.ex hC.by hd ?_
  rw [← Int64.ofInt_mul]
  exact h p l e R s m args below meth c n0 s0 σ0 hC H locs hR hlo hN ls hl
theorem v_ineg {x : Int} (hd : DD M.cc pc 1 pc' (.ineg)) (h : VV E M d pc' L (aI (-x) :: st) σ Q) : VV E M d pc L (aI (x) :: st) σ Q := by
  obtain ⟨hd, rfl⟩ := hd
  intro p l e R s m args below meth c n0 s0 σ0 hC H locs hR hlo hN ls hl
  show W _ _ _ _ _ _ _ _ _ _ _ _ _ _ _ (F0 m pc ls (.int (Int32.ofInt (x)) :: st.map (cv E)))
  refine lv_ineg hC.ex hC.by hd ?_
  rw [← Int32.ofInt_neg]
  exact h p l e R s m args below meth c n0 s0 σ0 hC H locs hR hlo hN ls hl
theorem v_lneg {x : Int} (hd : DD M.cc pc 1 pc' (.lneg)) (h : VV E M d pc' L (aL (-x) :: st) σ Q) : VV E M d pc L (aL (x) :: st) σ Q := by
  obtain ⟨hd, rfl⟩ := hd
  intro p l e R s m args below meth c n0 s0 σ0 hC H locs hR hlo hN ls hl
  show W _ _ _ _ _ _ _ _ _ _ _ _ _ _ _ (F0 m pc ls (.long (Int64.ofInt (x)) :: st.map (cv E)))
  refine lv_lneg hC.ex hC.by hd ?_
  rw [← Int64.ofInt_neg]
  exact h p l e R s m args below meth c n0 s0 σ0 hC H locs hR hlo hN ls hl
theorem v_iand {x y : Int} (hd : DD M.cc pc 1 pc' (.iand)) (h : VV E M d pc' L (aI (b32and x y) :: st) σ Q) : VV E M d pc L (aI (y) :: aI (x) :: st) σ Q := by
  obtain ⟨hd, rfl⟩ := hd
  intro p l e R s m args below meth c n0 s0 σ0 hC H locs hR hlo hN ls hl
  show W _ _ _ _ _ _ _ _ _ _ _ _ _ _ _ (F0 m pc ls (.int (Int32.ofInt (y)) :: .int (Int32.ofInt (x)) :: st.map (cv E)))
  refine lv_iand hC.ex hC.by hd ?_
  rw [← i32_and]
  exact h p l e R s m args below meth c n0 s0 σ0 hC H locs hR hlo hN ls hl
theorem v_land {x y : Int} (hd : DD M.cc pc 1 pc' (.land)) (h : VV E M d pc' L (aL (b64and x y) :: st) σ Q) : VV E M d pc L (aL (y) :: aL (x) :: st) σ Q := by
  obtain ⟨hd, rfl⟩ := hd
  intro p l e R s m args below meth c n0 s0 σ0 hC H locs hR hlo hN ls hl
  show W _ _ _ _ _ _ _ _ _ _ _ _ _ _ _ (F0 m pc ls (.long (Int64.ofInt (y)) :: .long (Int64.ofInt (x)) :: st.map (cv E)))
  refine lv_land hC.ex hC.by hd ?_
  rw [← i64_and]
  exact h p l e R s m args below meth c n0 s0 σ0 hC H locs hR hlo hN ls hl
theorem v_ior {x y : Int} (hd : DD M.cc pc 1 pc' (.ior)) (h : VV E M d pc' L (aI (b32or x y) :: st) σ Q) : VV E M d pc L (aI (y) :: aI (x) :: st) σ Q := by
  obtain ⟨hd, rfl⟩ := hd
  intro p l e R s m args below meth c n0 s0 σ0 hC H locs hR hlo hN ls hl
  show W _ _ _ _ _ _ _ _ _ _ _ _ _ _ _ (F0 m pc ls (.int (Int32.ofInt (y)) :: .int (Int32.ofInt (x)) :: st.map (cv E)))
  refine lv_ior hC.ex hC.by hd ?_
  rw [← i32_or]
  exact h p l e R s m args below meth c n0 s0 σ0 hC H locs hR hlo hN ls hl
theorem v_lor {x y : Int} (hd : DD M.cc pc 1 pc' (.lor)) (h : VV E M d pc' L (aL (b64or x y) :: st) σ Q) : VV E M d pc L (aL (y) :: aL (x) :: st) σ Q := by
  obtain ⟨hd, rfl⟩ := hd
  intro p l e R s m args below meth c n0 s0 σ0 hC H locs hR hlo hN ls hl
  show W _ _ _ _ _ _ _ _ _ _ _ _ _ _ _ (F0 m pc ls (.long (Int64.ofInt (y)) :: .long (Int64.ofInt (x)) :: st.map (cv E)))
  refine lv_lor hC.ex hC.by hd ?_
  rw [← i64_or]
  exact h p l e R s m args below meth c n0 s0 σ0 hC H locs hR hlo hN ls hl
theorem v_ixor {x y : Int} (hd : DD M.cc pc 1 pc' (.ixor)) (h : VV E M d pc' L (aI (b32xor x y) :: st) σ Q) : VV E M d pc L (aI (y) :: aI (x) :: st) σ Q := by
  obtain ⟨hd, rfl⟩ := hd
  intro p l e R s m args below meth c n0 s0 σ0 hC H locs hR hlo hN ls hl
  show W _ _ _ _ _ _ _ _ _ _ _ _ _ _ _ (F0 m pc ls (.int (Int32.ofInt (y)) :: .int (Int32.ofInt (x)) :: st.map (cv E)))
  refine lv_ixor hC.ex hC.by hd ?_
  rw [← i32_xor]
  exact h p l e R s m args below meth c n0 s0 σ0 hC H locs hR hlo hN ls hl
theorem v_ishl {x y : Int} (hd : DD M.cc pc 1 pc' (.ishl)) (h : VV E M d pc' L (aI (b32shl x y) :: st) σ Q) : VV E M d pc L (aI (y) :: aI (x) :: st) σ Q := by
  obtain ⟨hd, rfl⟩ := hd
  intro p l e R s m args below meth c n0 s0 σ0 hC H locs hR hlo hN ls hl
  show W _ _ _ _ _ _ _ _ _ _ _ _ _ _ _ (F0 m pc ls (.int (Int32.ofInt (y)) :: .int (Int32.ofInt (x)) :: st.map (cv E)))
  refine lv_ishl hC.ex hC.by hd ?_
  rw [← i32_shl]
  exact h p l e R s m args below meth c n0 s0 σ0 hC H locs hR hlo hN ls hl
theorem v_ishr {x y : Int} (hd : DD M.cc pc 1 pc' (.ishr)) (h : VV E M d pc' L (aI (b32shr x y) :: st) σ Q) : VV E M d pc L (aI (y) :: aI (x) :: st) σ Q := by
  obtain ⟨hd, rfl⟩ := hd
  intro p l e R s m args below meth c n0 s0 σ0 hC H locs hR hlo hN ls hl
  show W _ _ _ _ _ _ _ _ _ _ _ _ _ _ _ (F0 m pc ls (.int (Int32.ofInt (y)) :: .int (Int32.ofInt (x)) :: st.map (cv E)))
  refine lv_ishr hC.ex hC.by hd ?_
  rw [← i32_shr]
  exact h p l e R s m args below meth c n0 s0 σ0 hC H locs hR hlo hN ls hl
theorem v_iushr {x y : Int} (hd : DD M.cc pc 1 pc' (.iushr)) (h : VV E M d pc' L (aI (b32ushr x y) :: st) σ Q) : VV E M d pc L (aI (y) :: aI (x) :: st) σ Q := by
  obtain ⟨hd, rfl⟩ := hd
  intro p l e R s m args below meth c n0 s0 σ0 hC H locs hR hlo hN ls hl
  show W _ _ _ _ _ _ _ _ _ _ _ _ _ _ _ (F0 m pc ls (.int (Int32.ofInt (y)) :: .int (Int32.ofInt (x)) :: st.map (cv E)))
  refine lv_iushr hC.ex hC.by hd (i32_ushr x y).symm ?_
  exact h p l e R s m args below meth c n0 s0 σ0 hC H locs hR hlo hN ls hl
theorem v_lshl {x y : Int} (hd : DD M.cc pc 1 pc' (.lshl)) (h : VV E M d pc' L (aL (b64shl x y) :: st) σ Q) : VV E M d pc L (aI (y) :: aL (x) :: st) σ Q := by
  obtain ⟨hd, rfl⟩ := hd
  intro p l e R s m args below meth c n0 s0 σ0 hC H locs hR hlo hN ls hl
  show W _ _ _ _ _ _ _ _ _ _ _ _ _ _ _ (F0 m pc ls (.int (Int32.ofInt (y)) :: .long (Int64.ofInt (x)) :: st.map (cv E)))
  refine lv_lshl hC.ex hC.by hd (i64_shl x y).symm ?_
  exact h p l e R s m args below meth c n0 s0 σ0 hC H locs hR hlo hN ls hl
theorem v_lshr {x y : Int} (hd : DD M.cc pc 1 pc' (.lshr)) (h : VV E M d pc' L (aL (b64shr x y) :: st) σ Q) : VV E M d pc L (aI (y) :: aL (x) :: st) σ Q := by
  obtain ⟨hd, rfl⟩ := hd
  intro p l e R s m args below meth c n0 s0 σ0 hC H locs hR hlo hN ls hl
  show W _ _ _ _ _ _ _ _ _ _ _ _ _ _ _ (F0 m pc ls (.int (Int32.ofInt (y)) :: .long (Int64.ofInt (x)) :: st.map (cv E)))
  refine lv_lshr hC.ex hC.by hd (i64_shr x y).symm ?_
  exact h p l e R s m args below meth c n0 s0 σ0 hC H locs hR hlo hN ls hl
theorem v_i2l {x : Int} (hd : DD M.cc pc 1 pc' (.i2l)) (hx : inR x) (h : VV E M d pc' L (aL (x) :: st) σ Q) : VV E M d pc L (aI (x) :: st) σ Q := by
  obtain ⟨hd, rfl⟩ := hd
  intro p l e R s m args below meth c n0 s0 σ0 hC H locs hR hlo hN ls hl
  show W _ _ _ _ _ _ _ _ _ _ _ _ _ _ _ (F0 m pc ls (.int (Int32.ofInt (x)) :: st.map (cv E)))
  refine lv_i2l hC.ex hC.by hd (i32_64 hx) ?_
  exact h p l e R s m args below meth c n0 s0 σ0 hC H locs hR hlo hN ls hl
theorem v_l2i {x : Int} (hd : DD M.cc pc 1 pc' (.l2i)) (h : VV E M d pc' L (aI (x) :: st) σ Q) : VV E M d pc L (aL (x) :: st) σ Q := by
  obtain ⟨hd, rfl⟩ := hd
  intro p l e R s m args below meth c n0 s0 σ0 hC H locs hR hlo hN ls hl
  show W _ _ _ _ _ _ _ _ _ _ _ _ _ _ _ (F0 m pc ls (.long (Int64.ofInt (x)) :: st.map (cv E)))
  refine lv_l2i hC.ex hC.by hd (i64_32 x) ?_
  exact h p l e R s m args below meth c n0 s0 σ0 hC H locs hR hlo hN ls hl
theorem v_i2b {x : Int} (hd : DD M.cc pc 1 pc' (.i2b)) (h : VV E M d pc' L (aI (sx8 x) :: st) σ Q) : VV E M d pc L (aI (x) :: st) σ Q := by
  obtain ⟨hd, rfl⟩ := hd
  intro p l e R s m args below meth c n0 s0 σ0 hC H locs hR hlo hN ls hl
  show W _ _ _ _ _ _ _ _ _ _ _ _ _ _ _ (F0 m pc ls (.int (Int32.ofInt (x)) :: st.map (cv E)))
  refine lv_i2b hC.ex hC.by hd (i32_8 x) ?_
  exact h p l e R s m args below meth c n0 s0 σ0 hC H locs hR hlo hN ls hl
theorem v_i2s {x : Int} (hd : DD M.cc pc 1 pc' (.i2s)) (h : VV E M d pc' L (aI (sx16 x) :: st) σ Q) : VV E M d pc L (aI (x) :: st) σ Q := by
  obtain ⟨hd, rfl⟩ := hd
  intro p l e R s m args below meth c n0 s0 σ0 hC H locs hR hlo hN ls hl
  show W _ _ _ _ _ _ _ _ _ _ _ _ _ _ _ (F0 m pc ls (.int (Int32.ofInt (x)) :: st.map (cv E)))
  refine lv_i2s hC.ex hC.by hd (i32_16 x) ?_
  exact h p l e R s m args below meth c n0 s0 σ0 hC H locs hR hlo hN ls hl
theorem v_idiv {x y : Int} (hd : DD M.cc pc 1 pc' (.idiv)) (hx : inR x) (hy : inR y) (h0 : y ≠ 0) (h1 : y ≠ -1) (h : VV E M d pc' L (aI (x.tdiv y) :: st) σ Q) : VV E M d pc L (aI (y) :: aI (x) :: st) σ Q := by
  obtain ⟨hd, rfl⟩ := hd
  intro p l e R s m args below meth c n0 s0 σ0 hC H locs hR hlo hN ls hl
  show W _ _ _ _ _ _ _ _ _ _ _ _ _ _ _ (F0 m pc ls (.int (Int32.ofInt (y)) :: .int (Int32.ofInt (x)) :: st.map (cv E)))
  refine lv_idiv hC.ex hC.by hd (i32_ne hy h0) ?_
  rw [i32_div hx hy h1]
  exact h p l e R s m args below meth c n0 s0 σ0 hC H locs hR hlo hN ls hl
theorem v_ldiv {x y : Int} (hd : DD M.cc pc 1 pc' (.ldiv)) (hx : inL x) (hy : inL y) (h0 : y ≠ 0) (h1 : y ≠ -1) (h : VV E M d pc' L (aL (x.tdiv y) :: st) σ Q) : VV E M d pc L (aL (y) :: aL (x) :: st) σ Q := by
  obtain ⟨hd, rfl⟩ := hd
  intro p l e R s m args below meth c n0 s0 σ0 hC H locs hR hlo hN ls hl
  show W _ _ _ _ _ _ _ _ _ _ _ _ _ _ _ (F0 m pc ls (.long (Int64.ofInt (y)) :: .long (Int64.ofInt (x)) :: st.map (cv E)))
  refine lv_ldiv hC.ex hC.by hd (i64_ne hy h0) ?_
  rw [i64_div hx hy h1]
  exact h p l e R s m args below meth c n0 s0 σ0 hC H locs hR hlo hN ls hl
theorem v_irem {x y : Int} (hd : DD M.cc pc 1 pc' (.irem)) (hx : inR x) (hy : inR y) (h0 : y ≠ 0) (h1 : y ≠ -1) (h : VV E M d pc' L (aI (x.tmod y) :: st) σ Q) : VV E M d pc L (aI (y) :: aI (x) :: st) σ Q := by
  obtain ⟨hd, rfl⟩ := hd
  intro p l e R s m args below meth c n0 s0 σ0 hC H locs hR hlo hN ls hl
  show W _ _ _ _ _ _ _ _ _ _ _ _ _ _ _ (F0 m pc ls (.int (Int32.ofInt (y)) :: .int (Int32.ofInt (x)) :: st.map (cv E)))
  refine lv_irem hC.ex hC.by hd (i32_ne hy h0) ?_
  rw [i32_rem hx hy h1]
  exact h p l e R s m args below meth c n0 s0 σ0 hC H locs hR hlo hN ls hl
theorem v_dup {v : AV} (hd : DD M.cc pc 1 pc' .dup) (hc : acat v = 1) (h : VV E M d pc' L (v :: v :: st) σ Q) : VV E M d pc L (v :: st) σ Q := by
  obtain ⟨hd, rfl⟩ := hd
  intro p l e R s m args below meth c n0 s0 σ0 hC H locs hR hlo hN ls hl
  refine lv_dup hC.ex hC.by hd (by rw [← cv_cat E] at hc; exact hc) ?_
  exact h p l e R s m args below meth c n0 s0 σ0 hC H locs hR hlo hN ls hl
theorem v_pop {v : AV} (hd : DD M.cc pc 1 pc' .pop) (hc : acat v = 1) (h : VV E M d pc' L st σ Q) : VV E M d pc L (v :: st) σ Q := by
  obtain ⟨hd, rfl⟩ := hd
  intro p l e R s m args below meth c n0 s0 σ0 hC H locs hR hlo hN ls hl
  refine lv_pop hC.ex hC.by hd (by rw [← cv_cat E] at hc; exact hc) ?_
  exact h p l e R s m args below meth c n0 s0 σ0 hC H locs hR hlo hN ls hl
theorem v_dup2 {v w : AV} (hd : DD M.cc pc 1 pc' .dup2) (hc : acat v = 1) (hw : acat w = 1) (h : VV E M d pc' L (v :: w :: v :: w :: st) σ Q) : VV E M d pc L (v :: w :: st) σ Q := by
  obtain ⟨hd, rfl⟩ := hd
  intro p l e R s m args below meth c n0 s0 σ0 hC H locs hR hlo hN ls hl
  refine lv_dup2_11 hC.ex hC.by hd (by rw [← cv_cat E] at hc; exact hc) (by rw [← cv_cat E] at hw; exact hw) ?_
  exact h p l e R s m args below meth c n0 s0 σ0 hC H locs hR hlo hN ls hl
theorem v_goto {off : Int} (hd : decode M.cc pc = .ok (.goto off, 3)) (ht : (pc : Int) + off = (pc' : Int)) (h : VV E M d pc' L st σ Q) : VV E M d pc L st σ Q := by
  intro p l e R s m args below meth c n0 s0 σ0 hC H locs hR hlo hN ls hl
  refine lv_goto hC.ex hC.by hd ht ?_
  exact h p l e R s m args below meth c n0 s0 σ0 hC H locs hR hlo hN ls hl
theorem v_icmp_eq {x y : Int} {off : Int} {tg : Nat} (hd : DD M.cc pc 3 pc' (.if_icmp .eq off)) (ht : (pc : Int) + off = (tg : Int)) (hx : inR x) (hy : inR y) (ht1 : x = y → VV E M d tg L st σ Q) (hf1 : x ≠ y → VV E M d pc' L st σ Q) : VV E M d pc L (aI y :: aI x :: st) σ Q := by
  obtain ⟨hd, rfl⟩ := hd
  intro p l e R s m args below meth c n0 s0 σ0 hC H locs hR hlo hN ls hl
  show W _ _ _ _ _ _ _ _ _ _ _ _ _ _ _ (F0 m pc ls (.int (Int32.ofInt y) :: .int (Int32.ofInt x) :: st.map (cv E)))
  refine lv_icmp_eq hC.ex hC.by hd ht (fun q => ?_) (fun q => ?_)
  · exact ht1 (by simp only [ge_iff_le, gt_iff_lt, ne_eq, i32_lt hx hy, i32_le hx hy, i32_lt hy hx, i32_le hy hx, i32_eq hx hy] at q; omega) p l e R s m args below meth c n0 s0 σ0 hC H locs hR hlo hN ls hl
  · exact hf1 (by simp only [ge_iff_le, gt_iff_lt, ne_eq, i32_lt hx hy, i32_le hx hy, i32_lt hy hx, i32_le hy hx, i32_eq hx hy] at q; omega) p l e R s m args below meth c n0 s0 σ0 hC H locs hR hlo hN ls hl
theorem v_if_eq {x : Int} {off : Int} {tg : Nat} (hd : DD M.cc pc 3 pc' (.ifCond .eq off)) (ht : (pc : Int) + off = (tg : Int)) (hx : inR x) (ht1 : x = 0 → VV E M d tg L st σ Q) (hf1 : x ≠ 0 → VV E M d pc' L st σ Q) : VV E M d pc L (aI x :: st) σ Q := by
  obtain ⟨hd, rfl⟩ := hd
  intro p l e R s m args below meth c n0 s0 σ0 hC H locs hR hlo hN ls hl
  have hy : inR 0 := inR_0
  show W _ _ _ _ _ _ _ _ _ _ _ _ _ _ _ (F0 m pc ls (.int (Int32.ofInt x) :: st.map (cv E)))
  refine lv_if_eq hC.ex hC.by hd ht (fun q => ?_) (fun q => ?_)
  · exact ht1 (by rw [i32_0] at q; simp only [ge_iff_le, gt_iff_lt, ne_eq, i32_lt hx hy, i32_le hx hy, i32_lt hy hx, i32_le hy hx, i32_eq hx hy] at q; omega) p l e R s m args below meth c n0 s0 σ0 hC H locs hR hlo hN ls hl
  · exact hf1 (by rw [i32_0] at q; simp only [ge_iff_le, gt_iff_lt, ne_eq, i32_lt hx hy, i32_le hx hy, i32_lt hy hx, i32_le hy hx, i32_eq hx hy] at q; omega) p l e R s m args below meth c n0 s0 σ0 hC H locs hR hlo hN ls hl
theorem v_icmp_ne {x y : Int} {off : Int} {tg : Nat} (hd : DD M.cc pc 3 pc' (.if_icmp .ne off)) (ht : (pc : Int) + off = (tg : Int)) (hx : inR x) (hy : inR y) (ht1 : x ≠ y → VV E M d tg L st σ Q) (hf1 : x = y → VV E M d pc' L st σ Q) : VV E M d pc L (aI y :: aI x :: st) σ Q := by
  obtain ⟨hd, rfl⟩ := hd
  intro p l e R s m args below meth c n0 s0 σ0 hC H locs hR hlo hN ls hl
  show W _ _ _ _ _ _ _ _ _ _ _ _ _ _ _ (F0 m pc ls (.int (Int32.ofInt y) :: .int (Int32.ofInt x) :: st.map (cv E)))
  refine lv_icmp_ne hC.ex hC.by hd ht (fun q => ?_) (fun q => ?_)
  · exact ht1 (by simp only [ge_iff_le, gt_iff_lt, ne_eq, i32_lt hx hy, i32_le hx hy, i32_lt hy hx, i32_le hy hx, i32_eq hx hy] at q; omega) p l e R s m args below meth c n0 s0 σ0 hC H locs hR hlo hN ls hl
  · exact hf1 (by simp only [ge_iff_le, gt_iff_lt, ne_eq, i32_lt hx hy, i32_le hx hy, i32_lt hy hx, i32_le hy hx, i32_eq hx hy] at q; omega) p l e R s m args below meth c n0 s0 σ0 hC H locs hR hlo hN ls hl
theorem v_if_ne {x : Int} {off : Int} {tg : Nat} (hd : DD M.cc pc 3 pc' (.ifCond .ne off)) (ht : (pc : Int) + off = (tg : Int)) (hx : inR x) (ht1 : x ≠ 0 → VV E M d tg L st σ Q) (hf1 : x = 0 → VV E M d pc' L st σ Q) : VV E M d pc L (aI x :: st) σ Q := by
  obtain ⟨hd, rfl⟩ := hd
  intro p l e R s m args below meth c n0 s0 σ0 hC H locs hR hlo hN ls hl
  have hy : inR 0 := inR_0
  show W _ _ _ _ _ _ _ _ _ _ _ _ _ _ _ (F0 m pc ls (.int (Int32.ofInt x) :: st.map (cv E)))
  refine lv_if_ne hC.ex hC.by hd ht (fun q => ?_) (fun q => ?_)
  · exact ht1 (by rw [i32_0] at q; simp only [ge_iff_le, gt_iff_lt, ne_eq, i32_lt hx hy, i32_le hx hy, i32_lt hy hx, i32_le hy hx, i32_eq hx hy] at q; omega) p l e R s m args below meth c n0 s0 σ0 hC H locs hR hlo hN ls hl
  · exact hf1 (by rw [i32_0] at q; simp only [ge_iff_le, gt_iff_lt, ne_eq, i32_lt hx hy, i32_le hx hy, i32_lt hy hx, i32_le hy hx, i32_eq hx hy] at q; omega) p l e R s m args below meth c n0 s0 σ0 hC H locs hR hlo hN ls hl
theorem v_icmp_lt {x y : Int} {off : Int} {tg : Nat} (hd : DD M.cc pc 3 pc' (.if_icmp .lt off)) (ht : (pc : Int) + off = (tg : Int)) (hx : inR x) (hy : inR y) (ht1 : x < y → VV E M d tg L st σ Q) (hf1 : y ≤ x → VV E M d pc' L st σ Q) : VV E M d pc L (aI y :: aI x :: st) σ Q := by
  obtain ⟨hd, rfl⟩ := hd
  intro p l e R s m args below meth c n0 s0 σ0 hC H locs hR hlo hN ls hl
  show W _ _ _ _ _ _ _ _ _ _ _ _ _ _ _ (F0 m pc ls (.int (Int32.ofInt y) :: .int (Int32.ofInt x) :: st.map (cv E)))
  refine lv_icmp_lt hC.ex hC.by hd ht (fun q => ?_) (fun q => ?_)
  · exact ht1 (by simp only [ge_iff_le, gt_iff_lt, ne_eq, i32_lt hx hy, i32_le hx hy, i32_lt hy hx, i32_le hy hx, i32_eq hx hy] at q; omega) p l e R s m args below meth c n0 s0 σ0 hC H locs hR hlo hN ls hl
  · exact hf1 (by simp only [ge_iff_le, gt_iff_lt, ne_eq, i32_lt hx hy, i32_le hx hy, i32_lt hy hx, i32_le hy hx, i32_eq hx hy] at q; omega) p l e R s m args below meth c n0 s0 σ0 hC H locs hR hlo hN ls hl
theorem v_if_lt {x : Int} {off : Int} {tg : Nat} (hd : DD M.cc pc 3 pc' (.ifCond .lt off)) (ht : (pc : Int) + off = (tg : Int)) (hx : inR x) (ht1 : x < 0 → VV E M d tg L st σ Q) (hf1 : 0 ≤ x → VV E M d pc' L st σ Q) : VV E M d pc L (aI x :: st) σ Q := by
  obtain ⟨hd, rfl⟩ := hd
  intro p l e R s m args below meth c n0 s0 σ0 hC H locs hR hlo hN ls hl
  have hy : inR 0 := inR_0
  show W _ _ _ _ _ _ _ _ _ _ _ _ _ _ _ (F0 m pc ls (.int (Int32.ofInt x) :: st.map (cv E)))
  refine lv_if_lt hC.ex hC.by hd ht (fun q => ?_) (fun q => ?_)
  · exact ht1 (by rw [i32_0] at q; simp only [ge_iff_le, gt_iff_lt, ne_eq, i32_lt hx hy, i32_le hx hy, i32_lt hy hx, i32_le hy hx, i32_eq hx hy] at q; omega) p l e R s m args below meth c n0 s0 σ0 hC H locs hR hlo hN ls hl
  · exact hf1 (by rw [i32_0] at q; simp only [ge_iff_le, gt_iff_lt, ne_eq, i32_lt hx hy, i32_le hx hy, i32_lt hy hx, i32_le hy hx, i32_eq hx hy] at q; omega) p l e R s m args below meth c n0 s0 σ0 hC H locs hR hlo hN ls hl
theorem v_icmp_ge {x y : Int} {off : Int} {tg : Nat} (hd : DD M.cc pc 3 pc' (.if_icmp .ge off)) (ht : (pc : Int) + off = (tg : Int)) (hx : inR x) (hy : inR y) (ht1 : y ≤ x → VV E M d tg L st σ Q) (hf1 : x < y → VV E M d pc' L st σ Q) : VV E M d pc L (aI y :: aI x :: st) σ Q := by
  obtain ⟨hd, rfl⟩ := hd
  intro p l e R s m args below meth c n0 s0 σ0 hC H locs hR hlo hN ls hl
  show W _ _ _ _ _ _ _ _ _ _ _ _ _ _ _ (F0 m pc ls (.int (Int32.ofInt y) :: .int (Int32.ofInt x) :: st.map (cv E)))
  refine lv_icmp_ge hC.ex hC.by hd ht (fun q => ?_) (fun q => ?_)
  · exact ht1 (by simp only [ge_iff_le, gt_iff_lt, ne_eq, i32_lt hx hy, i32_le hx hy, i32_lt hy hx, i32_le hy hx, i32_eq hx hy] at q; omega) p l e R s m args below meth c n0 s0 σ0 hC H locs hR hlo hN ls hl
  · exact hf1 (by simp only [ge_iff_le, gt_iff_lt, ne_eq, i32_lt hx hy, i32_le hx hy, i32_lt hy hx, i32_le hy hx, i32_eq hx hy] at q; omega) p l e R s m args below meth c n0 s0 σ0 hC H locs hR hlo hN ls hl
theorem v_if_ge {x : Int} {off : Int} {tg : Nat} (hd : DD M.cc pc 3 pc' (.ifCond .ge off)) (ht : (pc : Int) + off = (tg : Int)) (hx : inR x) (ht1 : 0 ≤ x → VV E M d tg L st σ Q) (hf1 : x < 0 → VV E M d pc' L st σ Q) : VV E M d pc L (aI x :: st) σ Q := by
  obtain ⟨hd, rfl⟩ := hd
  intro p l e R s m args below meth c n0 s0 σ0 hC H locs hR hlo hN ls hl
  have hy : inR 0 := inR_0
  show W _ _ _ _ _ _ _ _ _ _ _ _ _ _ _ (F0 m pc ls (.int (Int32.ofInt x) :: st.map (cv E)))
  refine lv_if_ge hC.ex hC.by hd ht (fun q => ?_) (fun q => ?_)
  · exact ht1 (by rw [i32_0] at q; simp only [ge_iff_le, gt_iff_lt, ne_eq, i32_lt hx hy, i32_le hx hy, i32_lt hy hx, i32_le hy hx, i32_eq hx hy] at q; omega) p l e R s m args below meth c n0 s0 σ0 hC H locs hR hlo hN ls hl
  · exact hf1 (by rw [i32_0] at q; simp only [ge_iff_le, gt_iff_lt, ne_eq, i32_lt hx hy, i32_le hx hy, i32_lt hy hx, i32_le hy hx, i32_eq hx hy] at q; omega) p l e R s m args below meth c n0 s0 σ0 hC H locs hR hlo hN ls hl
theorem v_icmp_gt {x y : Int} {off : Int} {tg : Nat} (hd : DD M.cc pc 3 pc' (.if_icmp .gt off)) (ht : (pc : Int) + off = (tg : Int)) (hx : inR x) (hy : inR y) (ht1 : y < x → VV E M d tg L st σ Q) (hf1 : x ≤ y → VV E M d pc' L st σ Q) : VV E M d pc L (aI y :: aI x :: st) σ Q := by
  obtain ⟨hd, rfl⟩ := hd
  intro p l e R s m args below meth c n0 s0 σ0 hC H locs hR hlo hN ls hl
  show W _ _ _ _ _ _ _ _ _ _ _ _ _ _ _ (F0 m pc ls (.int (Int32.ofInt y) :: .int (Int32.ofInt x) :: st.map (cv E)))
  refine lv_icmp_gt hC.ex hC.by hd ht (fun q => ?_) (fun q => ?_)
  · exact ht1 (by simp only [ge_iff_le, gt_iff_lt, ne_eq, i32_lt hx hy, i32_le hx hy, i32_lt hy hx, i32_le hy hx, i32_eq hx hy] at q; omega) p l e R s m args below meth c n0 s0 σ0 hC H locs hR hlo hN ls hl
  · exact hf1 (by simp only [ge_iff_le, gt_iff_lt, ne_eq, i32_lt hx hy, i32_le hx hy, i32_lt hy hx, i32_le hy hx, i32_eq hx hy] at q; omega) p l e R s m args below meth c n0 s0 σ0 hC H locs hR hlo hN ls hl
theorem v_if_gt {x : Int} {off : Int} {tg : Nat} (hd : DD M.cc pc 3 pc' (.ifCond .gt off)) (ht : (pc : Int) + off = (tg : Int)) (hx : inR x) (ht1 : 0 < x → VV E M d tg L st σ Q) (hf1 : x ≤ 0 → VV E M d pc' L st σ Q) : VV E M d pc L (aI x :: st) σ Q := by
  obtain ⟨hd, rfl⟩ := hd
  intro p l e R s m args below meth c n0 s0 σ0 hC H locs hR hlo hN ls hl
  have hy : inR 0 := inR_0
  show W _ _ _ _ _ _ _ _ _ _ _ _ _ _ _ (F0 m pc ls (.int (Int32.ofInt x) :: st.map (cv E)))
  refine lv_if_gt hC.ex hC.by hd ht (fun q => ?_) (fun q => ?_)
  · exact ht1 (by rw [i32_0] at q; simp only [ge_iff_le, gt_iff_lt, ne_eq, i32_lt hx hy, i32_le hx hy, i32_lt hy hx, i32_le hy hx, i32_eq hx hy] at q; omega) p l e R s m args below meth c n0 s0 σ0 hC H locs hR hlo hN ls hl
  · exact hf1 (by rw [i32_0] at q; simp only [ge_iff_le, gt_iff_lt, ne_eq, i32_lt hx hy, i32_le hx hy, i32_lt hy hx, i32_le hy hx, i32_eq hx hy] at q; omega) p l e R s m args below meth c n0 s0 σ0 hC H locs hR hlo hN ls hl
theorem v_icmp_le {x y : Int} {off : Int} {tg : Nat} (hd : DD M.cc pc 3 pc' (.if_icmp .le off)) (ht : (pc : Int) + off = (tg : Int)) (hx : inR x) (hy : inR y) (ht1 : x ≤ y → VV E M d tg L st σ Q) (hf1 : y < x → VV E M d pc' L st σ Q) : VV E M d pc L (aI y :: aI x :: st) σ Q := by
  obtain ⟨hd, rfl⟩ := hd
  intro p l e R s m args below meth c n0 s0 σ0 hC H locs hR hlo hN ls hl
  show W _ _ _ _ _ _ _ _ _ _ _ _ _ _ _ (F0 m pc ls (.int (Int32.ofInt y) :: .int (Int32.ofInt x) :: st.map (cv E)))
  refine lv_icmp_le hC.ex hC.by hd ht (fun q => ?_) (fun q => ?_)
  · exact ht1 (by simp only [ge_iff_le, gt_iff_lt, ne_eq, i32_lt hx hy, i32_le hx hy, i32_lt hy hx, i32_le hy hx, i32_eq hx hy] at q; omega) p l e R s m args below meth c n0 s0 σ0 hC H locs hR hlo hN ls hl
  · exact hf1 (by simp only [ge_iff_le, gt_iff_lt, ne_eq, i32_lt hx hy, i32_le hx hy, i32_lt hy hx, i32_le hy hx, i32_eq hx hy] at q; omega) p l e R s m args below meth c n0 s0 σ0 hC H locs hR hlo hN ls hl
theorem v_if_le {x : Int} {off : Int} {tg : Nat} (hd : DD M.cc pc 3 pc' (.ifCond .le off)) (ht : (pc : Int) + off = (tg : Int)) (hx : inR x) (ht1 : x ≤ 0 → VV E M d tg L st σ Q) (hf1 : 0 < x → VV E M d pc' L st σ Q) : VV E M d pc L (aI x :: st) σ Q := by
  obtain ⟨hd, rfl⟩ := hd
  intro p l e R s m args below meth c n0 s0 σ0 hC H locs hR hlo hN ls hl
  have hy : inR 0 := inR_0
  show W _ _ _ _ _ _ _ _ _ _ _ _ _ _ _ (F0 m pc ls (.int (Int32.ofInt x) :: st.map (cv E)))
  refine lv_if_le hC.ex hC.by hd ht (fun q => ?_) (fun q => ?_)
  · exact ht1 (by rw [i32_0] at q; simp only [ge_iff_le, gt_iff_lt, ne_eq, i32_lt hx hy, i32_le hx hy, i32_lt hy hx, i32_le hy hx, i32_eq hx hy] at q; omega) p l e R s m args below meth c n0 s0 σ0 hC H locs hR hlo hN ls hl
  · exact hf1 (by rw [i32_0] at q; simp only [ge_iff_le, gt_iff_lt, ne_eq, i32_lt hx hy, i32_le hx hy, i32_lt hy hx, i32_le hy hx, i32_eq hx hy] at q; omega) p l e R s m args below meth c n0 s0 σ0 hC H locs hR hlo hN ls hl
end VROWS
