/-! contracts: printed by tools/mk.py out of s98zzzm_clr.py -/
set_option maxRecDepth 100000
set_option maxHeartbeats 800000
/-! the constructor's terms.clear(), while not all cells are there -/
theorem DX2_clear_0 : DD cX2_clear 0 1 1 (.iconst 0) := ⟨by decide +kernel, rfl⟩
theorem DX2_clear_1 : DD cX2_clear 1 1 2 (.istore_n 1) := ⟨by decide +kernel, rfl⟩
theorem DX2_clear_2 : DD cX2_clear 2 1 3 (.iload_n 1) := ⟨by decide +kernel, rfl⟩
theorem DX2_clear_3 : DD cX2_clear 3 1 4 (.aload_n 0) := ⟨by decide +kernel, rfl⟩
theorem DX2_clear_4 : DD cX2_clear 4 3 7 (.getfield 37) := ⟨by decide +kernel, rfl⟩
theorem DX2_clear_7 : DD cX2_clear 7 1 8 (.arraylength) := ⟨by decide +kernel, rfl⟩
theorem DX2_clear_8 : DD cX2_clear 8 3 11 (.if_icmp .ge 16) := ⟨by decide +kernel, rfl⟩
theorem DX2_clear_11 : DD cX2_clear 11 1 12 (.aload_n 0) := ⟨by decide +kernel, rfl⟩
theorem DX2_clear_12 : DD cX2_clear 12 3 15 (.getfield 37) := ⟨by decide +kernel, rfl⟩
theorem DX2_clear_15 : DD cX2_clear 15 1 16 (.iload_n 1) := ⟨by decide +kernel, rfl⟩
theorem DX2_clear_16 : DD cX2_clear 16 1 17 (.iconst (-1)) := ⟨by decide +kernel, rfl⟩
theorem DX2_clear_17 : DD cX2_clear 17 1 18 (.iastore) := ⟨by decide +kernel, rfl⟩
theorem DX2_clear_18 : DD cX2_clear 18 3 21 (.iinc 1 1) := ⟨by decide +kernel, rfl⟩
theorem DX2_clear_21 : decode cX2_clear 21 = .ok (.goto (-19), 3) := by decide +kernel
theorem DX2_clear_24 : DD cX2_clear 24 1 25 (.aload_n 0) := ⟨by decide +kernel, rfl⟩
theorem DX2_clear_25 : DD cX2_clear 25 1 26 (.iconst 0) := ⟨by decide +kernel, rfl⟩
theorem DX2_clear_26 : DD cX2_clear 26 3 29 (.putfield 40) := ⟨by decide +kernel, rfl⟩
theorem DX2_clear_29 : DD cX2_clear 29 1 30 (.return_) := ⟨by decide +kernel, rfl⟩
theorem fil_s {σ : Sto} {a : Nat} {i v : Int} (h : 0 ≤ i) : (fil σ a i v).wI a i v = fil σ a (i + 1) v := by
  refine Prod.ext ?_ rfl
  funext c j
  show (if c = a ∧ j = i then v else if c = a ∧ 0 ≤ j ∧ j < i then v else σ.I c j) = if c = a ∧ 0 ≤ j ∧ j < i + 1 then v else σ.I c j
  by_cases e : c = a
  · by_cases f : j = i
    · rw [if_pos ⟨e, f⟩, if_pos ⟨e, by omega, by omega⟩]
    · rw [if_neg (fun q => f q.2)]
      by_cases k : 0 ≤ j ∧ j < i
      · rw [if_pos ⟨e, k⟩, if_pos ⟨e, by omega, by omega⟩]
      · rw [if_neg (fun q => k q.2), if_neg (fun q => k ⟨q.2.1, by have := q.2.2; omega⟩)]
  · rw [if_neg (fun q => e q.1), if_neg (fun q => e q.1), if_neg (fun q => e q.1)]
theorem fil_0 {σ : Sto} {a : Nat} {v : Int} : fil σ a 0 v = σ := by
  refine Prod.ext ?_ rfl
  funext c j
  exact if_neg (fun q => by have := q.2.1; have := q.2.2; omega)
theorem clr_loop {E : XE} {d : Nat} {σ : Sto} (h18 : σ.sh 18 = (102, 9)) (hr : σ.R 18 6 = some 25) (h25 : σ.sh 25 = (0, 8192)) : ∀ i : Int, 0 ≤ i → i ≤ 8192 → VV E mX2_clear d 2 [(1, aI i), (0, aO 18)] [] (fil σ 25 i (-((1 : Nat) : Int))) (RV (fun τ => τ = (fil σ 25 ((8192 : Nat) : Int) (-((1 : Nat) : Int))).wI 18 7 0)) := by
  refine up_ind ?_ ?_
  · refine v_iload_n 0 DX2_clear_2 rfl rfl ?_
    refine v_aload_n 1 DX2_clear_3 rfl rfl ?_
    refine w_getR (ci := 2) (kf := 6) (kz := 6) DX2_clear_4 h18 rfl (by decide) rfl (Or.inl q683) (fun _ _ => rfl) hr ?_
    refine v_alen DX2_clear_7 h25 (by decide) ?_
    refine v_icmp_ge (tg := 24) DX2_clear_8 rfl ⟨by decide, by decide⟩ ⟨by decide, by decide⟩ (fun _ => ?_) (fun e => absurd e (by decide))
    refine v_aload_n 1 DX2_clear_24 rfl rfl ?_
    refine v_iconst DX2_clear_25 ?_
    refine v_putI (ci := 2) (kf := 7) (z := 9) DX2_clear_26 h18 rfl (by decide) (Or.inl ⟨rfl, q685⟩) (fun _ _ => rfl) ⟨by decide, by decide⟩ rfl rfl ?_
    exact v_vret DX2_clear_29 rfl (RV_mk rfl)
  · intro i h0 h1 ih
    refine v_iload_n 0 DX2_clear_2 rfl rfl ?_
    refine v_aload_n 1 DX2_clear_3 rfl rfl ?_
    refine w_getR (ci := 2) (kf := 6) (kz := 6) DX2_clear_4 h18 rfl (by decide) rfl (Or.inl q683) (fun _ _ => rfl) hr ?_
    refine v_alen DX2_clear_7 h25 (by decide) ?_
    refine v_icmp_ge (tg := 24) DX2_clear_8 rfl ⟨by omega, by omega⟩ ⟨by decide, by decide⟩ (fun e => absurd e (by show ¬ (8192 : Int) ≤ i; omega)) (fun _ => ?_)
    refine v_aload_n 1 DX2_clear_11 rfl rfl ?_
    refine w_getR (ci := 2) (kf := 6) (kz := 6) DX2_clear_12 h18 rfl (by decide) rfl (Or.inl q683) (fun _ _ => rfl) hr ?_
    refine v_iload_n 0 DX2_clear_15 rfl rfl ?_
    refine v_iconst DX2_clear_16 ?_
    refine v_iast (z := 8192) DX2_clear_17 h25 h0 h1 ⟨by decide, by decide⟩ ?_
    refine v_iinc (L' := [(1, aI (i + 1)), (0, aO 18)]) 0 DX2_clear_18 rfl (by decide) rfl ?_
    refine v_goto (pc' := 2) DX2_clear_21 rfl ?_
    have e := fil_s (σ := σ) (a := 25) (i := i) (v := -((1 : Nat) : Int)) h0
    rw [← e] at ih
    exact ih
theorem cc_clear {E : XE} {d : Nat} {σ : Sto} (h18 : σ.sh 18 = (102, 9)) (hr : σ.R 18 6 = some 25) (h25 : σ.sh 25 = (0, 8192)) : CC E mX2_clear d [aO 18] σ (RV (fun τ => τ = (fil σ 25 ((8192 : Nat) : Int) (-((1 : Nat) : Int))).wI 18 7 0)) := by
  refine v_iconst DX2_clear_0 ?_
  refine v_istore_n (L' := [(1, aI 0), (0, aO 18)]) DX2_clear_1 rfl (by decide) rfl ?_
  have h := clr_loop (E := E) (d := d) h18 hr h25 0 (by decide) (by decide)
  rw [fil_0] at h
  exact h

