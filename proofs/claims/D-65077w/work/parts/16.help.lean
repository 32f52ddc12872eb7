theorem b32_in {z : Int32} : inR z.toInt := ⟨by have := Int32.minValue_le_toInt z; have e : Int32.minValue.toInt = -2147483648 := rfl; omega, by have := Int32.toInt_lt z; omega⟩
theorem b64_in {z : Int64} : inL z.toInt := ⟨by have := Int64.minValue_le_toInt z; have e : Int64.minValue.toInt = -9223372036854775808 := rfl; omega, by have := Int64.toInt_lt z; omega⟩
theorem inL_R {x : Int} (h : inR x) : inL x := ⟨by have := h.1; omega, by have := h.2; omega⟩
theorem inR_min {x y : Int} (h : inR x) (g : inR y) : inR (min x y) := by unfold inR at *; omega
theorem inR_max {x y : Int} (h : inR x) (g : inR y) : inR (max x y) := by unfold inR at *; omega
theorem inL_min {x y : Int} (h : inL x) (g : inL y) : inL (min x y) := by unfold inL at *; omega
theorem inL_max {x y : Int} (h : inL x) (g : inL y) : inL (max x y) := by unfold inL at *; omega
theorem SF.wI {σ : Sto} {a : Nat} {i v : Int} : SF σ (σ.wI a i v) := SF.rf (σ := σ)
theorem SF.cp {σ : Sto} {a b : Nat} {i j z : Int} : SF σ (σ.cp a i b j z) := SF.rf (σ := σ)
def GetW (M : MI) (index kf : Nat) (q : QC) : Prop := Cond.fieldLink M.y.cls index (q.1.2.1 kf).1 (q.1.2.1 kf).2.1 (q.1.2.1 kf).2.2.1 ∈ lw_all ∨ ∃ host, Cond.fieldLinkNest M.y.cls index (q.1.2.1 kf).1 (q.1.2.1 kf).2.1 (q.1.2.1 kf).2.2.1 host ∈ lw_tbl
section WROWS
variable {E : XE} {M : MI} {d pc pc' : Nat} {L : List (Nat × AV)} {st : List AV} {σ : Sto} {Q : Res → Sto → Prop} {a b ci kf z index : Nat} {kz : Int} {q : QC}
theorem w_getI (hd : DD M.cc pc 3 pc' (.getfield index)) (hs : σ.sh a = (100 + ci, z)) (hq : clT[ci]? = some q) (hk : kf < q.1.2.2) (hkz : (kf : Int) = kz) (hw : GetW M index kf q) (hz : ∀ x r, zfv E (q.2 kf) x r = .int (Int32.ofInt x)) (h : inT (q.2 kf) (σ.I a kz) → VV E M d pc' L (aI (σ.I a kz) :: st) σ Q) : VV E M d pc L (aO a :: st) σ Q := by
  subst hkz
  rcases hw with hw | ⟨host, hw⟩
  · exact v_get hd hs hq hk hw (hz _ _) h
  · exact v_getN hd hs hq hk hw (hz _ _) h
theorem w_getL (hd : DD M.cc pc 3 pc' (.getfield index)) (hs : σ.sh a = (100 + ci, z)) (hq : clT[ci]? = some q) (hk : kf < q.1.2.2) (hkz : (kf : Int) = kz) (hw : GetW M index kf q) (hz : ∀ x r, zfv E (q.2 kf) x r = .long (Int64.ofInt x)) (h : inT (q.2 kf) (σ.I a kz) → VV E M d pc' L (aL (σ.I a kz) :: st) σ Q) : VV E M d pc L (aO a :: st) σ Q := by
  subst hkz
  rcases hw with hw | ⟨host, hw⟩
  · exact v_get hd hs hq hk hw (hz _ _) h
  · exact v_getN hd hs hq hk hw (hz _ _) h
theorem w_getR (hd : DD M.cc pc 3 pc' (.getfield index)) (hs : σ.sh a = (100 + ci, z)) (hq : clT[ci]? = some q) (hk : kf < q.1.2.2) (hkz : (kf : Int) = kz) (hw : GetW M index kf q) (hz : ∀ x r, zfv E (q.2 kf) x r = va_rf (r.map (E.bs + ·))) (hr : σ.R a kz = some b) (h : VV E M d pc' L (aO b :: st) σ Q) : VV E M d pc L (aO a :: st) σ Q := by
  subst hkz
  have hv : zfv E (q.2 kf) (σ.I a kf) (σ.R a kf) = cv E (aO b) := by rw [hz, hr]; rfl
  rcases hw with hw | ⟨host, hw⟩
  · exact v_get hd hs hq hk hw hv (fun _ => h)
  · exact v_getN hd hs hq hk hw hv (fun _ => h)
theorem w_putI {x : Int} (hd : DD M.cc pc 3 pc' (.putfield index)) (hs : σ.sh a = (100 + ci, z)) (hq : clT[ci]? = some q) (hk : kf < q.1.2.2) (hkz : (kf : Int) = kz) (hw : PutW M index kf q) (hz : ∀ x r, zfv E (q.2 kf) x r = .int (Int32.ofInt x)) (hx : inT (q.2 kf) x) (hn : narrow (q.2 kf) (.int (Int32.ofInt x)) = .int (Int32.ofInt x)) (hf : fits (q.2 kf) (.int (Int32.ofInt x)) = true) (h : ∀ σ', σ' = σ.wI a kz x → SF σ σ' → VV E M d pc' L st σ' Q) : VV E M d pc L (aI x :: aO a :: st) σ Q := by
  subst hkz
  exact v_putI hd hs hq hk hw hz hx hn hf (h _ rfl SF.wI)
theorem w_putL {x : Int} (hd : DD M.cc pc 3 pc' (.putfield index)) (hs : σ.sh a = (100 + ci, z)) (hq : clT[ci]? = some q) (hk : kf < q.1.2.2) (hkz : (kf : Int) = kz) (hw : PutW M index kf q) (hz : q.2 kf = .long) (hx : inL x) (h : ∀ σ', σ' = σ.wI a kz x → SF σ σ' → VV E M d pc' L st σ' Q) : VV E M d pc L (aL x :: aO a :: st) σ Q := by
  subst hkz
  exact v_putL hd hs hq hk hw hz hx (h _ rfl SF.wI)
theorem SF.wR {i : Int} {v : Option Nat} (hy : dyn a i ∨ σ.R a i = none) : SF σ (σ.wR a i v) := (Nx.wR (n0 := 0) (s0 := 0) (σ0 := σ) (σ := σ) ⟨Nat.zero_le _, Nat.zero_le _, SF.rf⟩ hy).2.2
theorem w_putR (hd : DD M.cc pc 3 pc' (.putfield index)) (hs : σ.sh a = (100 + ci, z)) (hq : clT[ci]? = some q) (hk : kf < q.1.2.2) (hkz : (kf : Int) = kz) (hw : PutW M index kf q) (hz : ∀ x r, zfv E (q.2 kf) x r = va_rf (r.map (E.bs + ·))) (hn : narrow (q.2 kf) (.ref (E.bs + b)) = .ref (E.bs + b)) (hf : fits (q.2 kf) (.ref (E.bs + b)) = true) (hy : dyn a kz ∨ σ.R a kz = none) (h : ∀ σ', σ' = σ.wR a kz (some b) → SF σ σ' → VV E M d pc' L st σ' Q) : VV E M d pc L (aO b :: aO a :: st) σ Q := by
  subst hkz
  exact v_putR hd hs hq hk hw hz hn hf hy (h _ rfl (SF.wR hy))
theorem w_iast {i x : Int} (hd : DD M.cc pc 1 pc' .iastore) (hs : σ.sh a = (0, z)) (h0 : 0 ≤ i) (h1 : i < z) (hx : inR x) (h : ∀ σ', σ' = σ.wI a i x → SF σ σ' → VV E M d pc' L st σ' Q) : VV E M d pc L (aI x :: aI i :: aO a :: st) σ Q := v_iast hd hs h0 h1 hx (h _ rfl SF.wI)
theorem w_zast {i x : Int} (hd : DD M.cc pc 1 pc' .bastore) (hs : σ.sh a = (3, z)) (h0 : 0 ≤ i) (h1 : i < z) (hx : 0 ≤ x ∧ x ≤ 1) (h : ∀ σ', σ' = σ.wI a i x → SF σ σ' → VV E M d pc' L st σ' Q) : VV E M d pc L (aI x :: aI i :: aO a :: st) σ Q := v_zast hd hs h0 h1 hx (h _ rfl SF.wI)
theorem w_bast {i x : Int} (hd : DD M.cc pc 1 pc' .bastore) (hs : σ.sh a = (1, z)) (h0 : 0 ≤ i) (h1 : i < z) (h : ∀ σ', σ' = σ.wI a i (sx8 x) → SF σ σ' → VV E M d pc' L st σ' Q) : VV E M d pc L (aI x :: aI i :: aO a :: st) σ Q := v_bast hd hs h0 h1 (h _ rfl SF.wI)
theorem w_sast {i x : Int} (hd : DD M.cc pc 1 pc' .sastore) (hs : σ.sh a = (2, z)) (h0 : 0 ≤ i) (h1 : i < z) (h : ∀ σ', σ' = σ.wI a i (sx16 x) → SF σ σ' → VV E M d pc' L st σ' Q) : VV E M d pc L (aI x :: aI i :: aO a :: st) σ Q := v_sast hd hs h0 h1 (h _ rfl SF.wI)
theorem w_last {i x : Int} (hd : DD M.cc pc 1 pc' .lastore) (hs : σ.sh a = (4, z)) (h0 : 0 ≤ i) (h1 : i < z) (hx : inL x) (h : ∀ σ', σ' = σ.wI a i x → SF σ σ' → VV E M d pc' L st σ' Q) : VV E M d pc L (aL x :: aI i :: aO a :: st) σ Q := v_last hd hs h0 h1 hx (h _ rfl SF.wI)
theorem w_copy {t za zb : Nat} {i j z : Int} (hd : DD M.cc pc 3 pc' (.invokestatic index)) (hlink : Cond.methodLink M.y.cls index arraycopyName ∈ lw_all) (hnat : Cond.native arraycopyName ∈ lw_all) (hstat : Cond.static arraycopyName ∈ lw_all) (hini : Cond.initialized "java/lang/System" ∈ lw_all) (ha : σ.sh a = (t, za)) (hb : σ.sh b = (t, zb)) (ht : t < 4) (hi : 0 ≤ i) (hj : 0 ≤ j) (hz : 0 ≤ z) (h1 : i + z ≤ za) (h2 : j + z ≤ zb) (hdd : 1 ≤ d) (hst : awords st ≤ 70) (h : ∀ σ', σ' = σ.cp a i b j z → SF σ σ' → VV E M d pc' L st σ' Q) : VV E M d pc L (aI z :: aI j :: aO b :: aI i :: aO a :: st) σ Q := v_copy hd hlink hnat hstat hini ha hb ht hi hj hz h1 h2 hdd hst (h _ rfl SF.cp)
theorem w_copyL {za zb : Nat} {i j z : Int} (hd : DD M.cc pc 3 pc' (.invokestatic index)) (hlink : Cond.methodLink M.y.cls index arraycopyName ∈ lw_all) (hnat : Cond.native arraycopyName ∈ lw_all) (hstat : Cond.static arraycopyName ∈ lw_all) (hini : Cond.initialized "java/lang/System" ∈ lw_all) (ha : σ.sh a = (4, za)) (hb : σ.sh b = (4, zb)) (hi : 0 ≤ i) (hj : 0 ≤ j) (hz : 0 ≤ z) (h1 : i + z ≤ za) (h2 : j + z ≤ zb) (hdd : 1 ≤ d) (hst : awords st ≤ 70) (h : ∀ σ', σ' = σ.cp a i b j z → SF σ σ' → VV E M d pc' L st σ' Q) : VV E M d pc L (aI z :: aI j :: aO b :: aI i :: aO a :: st) σ Q := v_copyL hd hlink hnat hstat hini ha hb hi hj hz h1 h2 hdd hst (h _ rfl SF.cp)
end WROWS
