/-! ROWS of VV: Strings, the script, statics: what was there before -/
section VSTRS
variable {E : XE} {M M' : MI} {d d' n0 s0 pc pc' : Nat} {L : List (Nat × AV)} {st stk as : List AV} {σ : Sto} {Q Q' : Res → Sto → Prop}
theorem old_h {p : Program} {R : Room} {s : State} {m : MethodId} {meth : Method} {c : Code} {H : Heap} (hC : Cy E M d n0 s0 p R s m meth c) (hR : Rel E σ H) : ∀ a : Nat, a < E.H0.size → ¬ XA E a → H[a]? = E.H0[a]? := fun a _ h2 => hR.2.1 a (by unfold XA at h2; omega)
theorem v_ldcS {index i : Nat} {tx : String} (hd : DD M.cc pc 2 pc' (.ldc index)) (hs : strR[i]? = some (M.y.cls, index, tx)) (h : VV E M d pc' L (aS i :: st) σ Q) : VV E M d pc L st σ Q := by
  obtain ⟨hd, rfl⟩ := hd
  intro p l e R s m args below meth c n0 s0 σ0 hC H locs hR hlo hN ls hl
  exact va_ldcS hC.ex hC.by hC.own (hC.sx.1 i _ hs) hd (h p l e R s m args below meth c n0 s0 σ0 hC H locs hR hlo hN ls hl)
theorem v_getSv {index i : Nat} (hd : DD M.cc pc 3 pc' (.getfield index)) (hw : Cond.fieldLink M.y.cls index "java/lang/String" "value" "[B" ∈ lw_all) (hi : i < strB.length) (h : VV E M d pc' L (aS (100 + i) :: st) σ Q) : VV E M d pc L (aS i :: st) σ Q := by
  obtain ⟨hd, rfl⟩ := hd
  intro p l e R s m args below meth c n0 s0 σ0 hC H locs hR hlo hN ls hl
  obtain ⟨cf, k, fi, f, cell, h1, h2, h3, h4, h5, h6⟩ := ((hC.sx.2.1 i hi).2.2.1).kept (old_h hC hR)
  exact W.getf hC.ex hC.by hC.own (hC.wd _ hw args) h1 h2 h3 h4 h5 rfl rfl hd (h p l e R s m args below meth c n0 s0 σ0 hC H locs hR hlo hN ls hl)
theorem v_getSc {index i : Nat} (hd : DD M.cc pc 3 pc' (.getfield index)) (hw : Cond.fieldLink M.y.cls index "java/lang/String" "coder" "B" ∈ lw_all) (hi : i < strB.length) (h : VV E M d pc' L (aI 0 :: st) σ Q) : VV E M d pc L (aS i :: st) σ Q := by
  obtain ⟨hd, rfl⟩ := hd
  intro p l e R s m args below meth c n0 s0 σ0 hC H locs hR hlo hN ls hl
  obtain ⟨cf, k, fi, f, cell, h1, h2, h3, h4, h5, h6⟩ := ((hC.sx.2.1 i hi).2.1).kept (old_h hC hR)
  exact W.getf hC.ex hC.by hC.own (hC.wd _ hw args) h1 h2 h3 h4 h5 rfl rfl hd (h p l e R s m args below meth c n0 s0 σ0 hC H locs hR hlo hN ls hl)
theorem v_alenS {i : Nat} (hd : DD M.cc pc 1 pc' .arraylength) (hi : i < strB.length) (h : VV E M d pc' L (aI (sl i) :: st) σ Q) : VV E M d pc L (aS (100 + i) :: st) σ Q := by
  obtain ⟨hd, rfl⟩ := hd
  intro p l e R s m args below meth c n0 s0 σ0 hC H locs hR hlo hN ls hl
  obtain ⟨cell, h1, h2, h3, h4, h5, h6, h7⟩ := ((hC.sx.2.1 i hi).2.2.2).kept (old_h hC hR)
  exact W.alen hC.ex hC.by h1 h2 (h5.trans Int32.ofInt_eq_ofNat.symm) rfl rfl hd (h p l e R s m args below meth c n0 s0 σ0 hC H locs hR hlo hN ls hl)
theorem v_baldS {i : Nat} {k : Int} (hd : DD M.cc pc 1 pc' .baload) (hi : i < strB.length) (h0 : 0 ≤ k) (h1 : k < sl i) (hz : sl i < 2147483648) (h : VV E M d pc' L (aI (sc i k) :: st) σ Q) : VV E M d pc L (aI k :: aS (100 + i) :: st) σ Q := by
  obtain ⟨hd, rfl⟩ := hd
  intro p l e R s m args below meth c n0 s0 σ0 hC H locs hR hlo hN ls hl
  obtain ⟨cell, g1, g2, g3, g4, g5, g6, g7⟩ := ((hC.sx.2.1 i hi).2.2.2).kept (old_h hC hR)
  have hk : k.toNat < (strB.getD i []).length := by unfold sl at h1; omega
  have hv : cell.slots[k.toNat]? = some (.int (Int32.ofInt (sc i ((k.toNat : Nat) : Int)))) := g6 k.toNat hk
  rw [ofNat_ofInt h0] at hv
  refine W.bald hC.ex hC.by (j := Int32.ofInt k) g1 g2 g3 ?_ (by rw [i32_cl h0 (by omega)]; exact hv) rfl rfl hd (h p l e R s m args below meth c n0 s0 σ0 hC H locs hR hlo hN ls hl)
  rw [i32_cl h0 (by omega)]
  rintro (q | q)
  · have := (i32_lt (x := k) (y := 0) ⟨by omega, by omega⟩ inR_0).mp q
    omega
  · omega
theorem v_getstI {index : Nat} (hd : DD M.cc pc 3 pc' (.getstatic index)) (hw : Cond.fieldLink M.y.cls index "java/lang/String" "COMPACT_STRINGS" "Z" ∈ lw_all) (h : VV E M d pc' L (aI 1 :: st) σ Q) : VV E M d pc L st σ Q := by
  obtain ⟨hd, rfl⟩ := hd
  intro p l e R s m args below meth c n0 s0 σ0 hC H locs hR hlo hN ls hl
  obtain ⟨cf, kf, fi, f, a, cell, h1, h2, h3, h4, h5, h6, h7, h8⟩ := hC.sx.2.2.2.1
  exact W.gets hC.ex hC.by hC.own (hC.wd _ hw args) h1 h2 h3 h4 (by rw [old_h hC hR a (Array.getElem?_eq_some_iff.mp h5).1 h8]; exact h5) (fun e => by rw [e] at h6; cases h6) h7 rfl hd (h p l e R s m args below meth c n0 s0 σ0 hC H locs hR hlo hN ls hl)
theorem v_getstF {index : Nat} (hd : DD M.cc pc 3 pc' (.getstatic index)) (hw : Cond.fieldLink M.y.cls index "jdk/internal/util/Preconditions" "SIOOBE_FORMATTER" "Ljava/util/function/BiFunction;" ∈ lw_all) (h : ∀ v : Value, v.category = 1 → VV E M d pc' L (aX v :: st) σ Q) : VV E M d pc L st σ Q := by
  obtain ⟨hd, rfl⟩ := hd
  intro p l e R s m args below meth c n0 s0 σ0 hC H locs hR hlo hN ls hl
  obtain ⟨v, hv, cf, kf, fi, f, a, cell, h1, h2, h3, h4, h5, h6, h7, h8⟩ := hC.sx.2.2.2.2.1
  exact W.gets hC.ex hC.by hC.own (hC.wd _ hw args) h1 h2 h3 h4 (by rw [old_h hC hR a (Array.getElem?_eq_some_iff.mp h5).1 h8]; exact h5) (fun e => by rw [e] at h6; cases h6) h7 rfl hd (h v hv p l e R s m args below meth c n0 s0 σ0 hC H locs hR hlo hN ls hl)
/-- the script -/
def scr (E : XE) (k : Int) : Int := (Int32.ofNat (E.sa (2000 + k.toNat))).toInt
theorem scr_in (E : XE) (k : Int) : inR (scr E k) := b32_in
theorem v_alenP (hd : DD M.cc pc 1 pc' .arraylength) (h : (E.sa 1001 : Int) ≤ 512 → VV E M d pc' L (aI (E.sa 1001) :: st) σ Q) : VV E M d pc L (aS 1000 :: st) σ Q := by
  obtain ⟨hd, rfl⟩ := hd
  intro p l e R s m args below meth c n0 s0 σ0 hC H locs hR hlo hN ls hl
  obtain ⟨⟨cell, h1, h2, h3, h4, h5, h6, h7⟩, h9⟩ := hC.sx.2.2.1
  have g1 : H[E.sa 1000]? = some cell := by rw [old_h hC hR _ (Array.getElem?_eq_some_iff.mp h1).1 h7]; exact h1
  exact W.alen hC.ex hC.by g1 h2 (h5.trans Int32.ofInt_eq_ofNat.symm) rfl rfl hd (h (by omega) p l e R s m args below meth c n0 s0 σ0 hC H locs hR hlo hN ls hl)
theorem v_ialdP {k : Int} (hd : DD M.cc pc 1 pc' .iaload) (h0 : 0 ≤ k) (h1 : k < (E.sa 1001 : Int)) (h : inR (scr E k) → VV E M d pc' L (aI (scr E k) :: st) σ Q) : VV E M d pc L (aI k :: aS 1000 :: st) σ Q := by
  obtain ⟨hd, rfl⟩ := hd
  intro p l e R s m args below meth c n0 s0 σ0 hC H locs hR hlo hN ls hl
  obtain ⟨⟨cell, h2, h3, h4, h5, h6, h7, h8⟩, h9⟩ := hC.sx.2.2.1
  have g1 : H[E.sa 1000]? = some cell := by rw [old_h hC hR _ (Array.getElem?_eq_some_iff.mp h2).1 h8]; exact h2
  have hv : cell.slots[k.toNat]? = some (.int (Int32.ofNat (E.sa (2000 + k.toNat)))) := h7 k.toNat (by omega)
  have e1 : Int32.ofNat (E.sa (2000 + k.toNat)) = Int32.ofInt (scr E k) := (Int32.ofInt_toInt _).symm
  rw [e1] at hv
  have hsz : cell.slots.size = E.sa 1001 ∨ E.sa 1001 ≤ cell.slots.size := Or.inr h5
  refine W.iald hC.ex hC.by (j := Int32.ofInt k) g1 h3 h4 ?_ (by rw [i32_cl h0 (by omega)]; exact hv) rfl rfl hd (h (scr_in E k) p l e R s m args below meth c n0 s0 σ0 hC H locs hR hlo hN ls hl)
  rw [i32_cl h0 (by omega)]
  rintro (q | q)
  · have := (i32_lt (x := k) (y := 0) ⟨by omega, by omega⟩ inR_0).mp q
    omega
  · omega
set_option maxHeartbeats 1000000 in
theorem v_invVS {index i : Nat} (hd : DD M.cc pc 3 pc' (.invokevirtual index)) (hstk : stk = as.reverse ++ aS i :: st) (hi : i < strB.length) (hM : Mok M') (hlink : Cond.methodLink M.y.cls index M'.y ∈ lw_all) (hinst : Cond.instanceMethod M'.y ∈ lw_all) (hsel : Cond.selects "java/lang/String" M'.y M'.y ∈ lw_all) (hnp : nPar M' as.length)
    (hcc : CC E M' d' (aS i :: as) σ Q') (hfit : awords (aS i :: as) ≤ M'.nL) (hdd : d' + 1 ≤ d) (hst : awords st + (M'.nL + 11) ≤ 100)
    (hret : ∀ v σ', Q' (.inl v) σ' → SF σ σ' → VV E M d pc' L (v.toList ++ st) σ' Q) (hthr : ∀ a σ', Q' (.inr a) σ' → noH M pc ∧ Q (.inr a) σ') : VV E M d pc L stk σ Q := by
  obtain ⟨hd, rfl⟩ := hd
  subst hstk
  intro p l e R s m args below meth c n0 s0 σ0 hC H locs hR hlo hN ls hl T hT X
  subst hT
  have hw := hC.wd
  have hy := plain_hy hM
  obtain ⟨mk, methM, hnamed, hmethM, hstM, habM⟩ := Cond.instanceMethod_spec (hw _ hinst args)
  obtain ⟨mk', methk, ck, a0, a1, a2, a3, a4, a5, a6, a7, hsigM⟩ := hM.spec hw
  cases hnamed.symm.trans a0
  cases hmethM.symm.trans a1
  obtain ⟨cellB, hcB, hoB, hclB, -⟩ := ((hC.sx.2.1 i hi).1).kept (old_h hC hR)
  obtain ⟨c2, r2, m2, q1, q2, q3, q4, kP, hkP, hkPi⟩ := Cond.selects_spec (hw _ hsel args)
  cases hclB.symm.trans q1
  cases (State.methodFound?_of_named hnamed hy).symm.trans q2
  cases hnamed.symm.trans q3
  have hselP : selectMethod e.platform s.vm cellB.cls mk = .method mk := by rw [Launch.admits_selectMethod X.admits]; exact q4
  have hstack : (F0 m pc ls ((as.reverse ++ aS i :: st).map (cv E))).stack = (as.map (cv E)).reverse ++ .ref (E.sa i) :: st.map (cv E) := by
    show (as.reverse ++ aS i :: st).map (cv E) = _
    rw [List.map_append, List.map_reverse]; rfl
  have hlen : (as.map (cv E)).length = methM.sig.parameters.length := by rw [List.length_map]; exact hnp _ hsigM
  obtain ⟨vm₁, X₁, hstep₁⟩ := X.invokevirtual hC.ex hC.own (hw _ hlink args) hnamed hmethM hstM hkP hkPi hy (a := E.sa i) (cell := cellB) hcB (fun z h => by rw [h] at hoB; cases hoB) hselP hmethM habM hkP hkPi (g := F0 m pc ls ((as.reverse ++ aS i :: st).map (cv E))) rfl (argsL := as.map (cv E)) (rest := st.map (cv E)) hlen hstack (by rw [hC.by]; exact hd)
  obtain ⟨t, h1, h2⟩ := z_go (as := aS i :: as) hC X₁ hR hlo hN hl hd hM (X₁.named hnamed) hcc hfit hdd hst hret hthr
  exact ⟨t, hstep₁ _ (fun acts => by rw [doInvoke_state]; exact h1), h2⟩
theorem i2c_b : ∀ n : Fin 256, ((Int32.ofInt (n.val : Int)).toUInt32 % 65536).toInt32 = Int32.ofInt (n.val : Int) := by decide +kernel
theorem v_i2c {x : Int} (hd : DD M.cc pc 1 pc' .i2c) (h0 : 0 ≤ x) (h1 : x ≤ 255) (h : VV E M d pc' L (aI x :: st) σ Q) : VV E M d pc L (aI x :: st) σ Q := by
  obtain ⟨hd, rfl⟩ := hd
  intro p l e R s m args below meth c n0 s0 σ0 hC H locs hR hlo hN ls hl
  show W _ _ _ _ _ _ _ _ _ _ _ _ _ _ _ (F0 m pc ls (.int (Int32.ofInt x) :: st.map (cv E)))
  have e1 := i2c_b ⟨x.toNat, by omega⟩
  simp only [ofNat_ofInt h0] at e1
  refine lv_i2c hC.ex hC.by hd e1 ?_
  exact h p l e R s m args below meth c n0 s0 σ0 hC H locs hR hlo hN ls hl
def b64xor (x y : Int) : Int := (Int64.ofInt x ^^^ Int64.ofInt y).toInt
theorem i64_xor (x y : Int) : Int64.ofInt (b64xor x y) = Int64.ofInt x ^^^ Int64.ofInt y := Int64.ofInt_toInt _
theorem v_lxor {x y : Int} (hd : DD M.cc pc 1 pc' .lxor) (h : VV E M d pc' L (aL (b64xor x y) :: st) σ Q) : VV E M d pc L (aL y :: aL x :: st) σ Q := by
  obtain ⟨hd, rfl⟩ := hd
  intro p l e R s m args below meth c n0 s0 σ0 hC H locs hR hlo hN ls hl
  show W _ _ _ _ _ _ _ _ _ _ _ _ _ _ _ (F0 m pc ls (.long (Int64.ofInt y) :: .long (Int64.ofInt x) :: st.map (cv E)))
  refine lv_lxor hC.ex hC.by hd ?_
  rw [← i64_xor]
  exact h p l e R s m args below meth c n0 s0 σ0 hC H locs hR hlo hN ls hl
theorem narC_b : ∀ n : Fin 256, narrow .char (.int (Int32.ofInt (n.val : Int))) = .int (Int32.ofInt (n.val : Int)) := by decide +kernel
theorem narC {x : Int} (h0 : 0 ≤ x) (h1 : x ≤ 255) : narrow .char (.int (Int32.ofInt x)) = .int (Int32.ofInt x) := by
  have e1 := narC_b ⟨x.toNat, by omega⟩
  simp only [ofNat_ofInt h0] at e1
  exact e1
theorem sl_b : ∀ i : Fin 41, 0 ≤ sl i.val ∧ sl i.val ≤ 220 := by decide +kernel
theorem sl_in {i : Nat} (h : i < strB.length) : 0 ≤ sl i ∧ sl i ≤ 220 := sl_b ⟨i, h⟩
theorem sc_b : ∀ l ∈ strB, ∀ c ∈ l, (0 : Int) ≤ c ∧ c ≤ 127 := by decide +kernel
theorem sc_in (i : Nat) (k : Int) : 0 ≤ sc i k ∧ sc i k ≤ 127 := by
  unfold sc
  by_cases hi : i < strB.length
  · have e1 : strB.getD i [] = strB[i] := by simp [List.getD, hi]
    rw [e1]
    by_cases hk : k.toNat < (strB[i]).length
    · have e2 : (strB[i]).getD k.toNat 0 = (strB[i])[k.toNat] := by simp [List.getD, hk]
      rw [e2]
      exact sc_b _ (List.getElem_mem hi) _ (List.getElem_mem hk)
    · have e2 : (strB[i]).getD k.toNat 0 = 0 := by simp [List.getD, hk]
      rw [e2]; decide
  · have e1 : strB.getD i [] = [] := by simp [List.getD, hi]
    rw [e1]; simp
theorem b32shr_0 {x : Int} (h : inR x) : b32shr x 0 = x := by
  unfold b32shr
  have e1 : Int32.ofInt x >>> (Int32.ofInt 0 &&& 31) = Int32.ofInt x := by
    have : (Int32.ofInt 0 &&& 31 : Int32) = 0 := by decide
    rw [this]; exact Int32.shiftRight_zero
  rw [e1]; exact i32_to h
end VSTRS
