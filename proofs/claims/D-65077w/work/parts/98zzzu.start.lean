/-! contracts: printed by tools/mk.py out of s98zzzu_start.py -/
set_option maxRecDepth 100000
set_option maxHeartbeats 800000
/-! the law from its start: both objects are made -/
theorem law_start {E : XE} {d : Nat} {R : Nat → Sto → Prop} (hd : 20 ≤ d) (ops : OPS E d R) (hY : ∀ k σ, R k σ → Lay σ) (hS : ∀ k σ, R k σ → R (k + 1) σ)
    (h0 : ∀ τ, RD (crun cM245 e00) τ (fun c i => if (1 ≤ (1 : Int) ∧ (1 : Int) ≤ 8 ∧ 1 ≤ (1 : Int) ∧ (1 : Int) ≤ 8) ∧ at2 c i 555 57 then 1 else if (1 ≤ (1 : Int) ∧ (1 : Int) ≤ 8 ∧ 1 ≤ (1 : Int) ∧ (1 : Int) ≤ 8) ∧ at2 c i 555 58 then 1 else if (1 ≤ (1 : Int) ∧ (1 : Int) ≤ 8 ∧ 1 ≤ (1 : Int) ∧ (1 : Int) ≤ 8) ∧ (rg c i 598 0 8 ∨ rg c i 599 0 8) then 0 else (crun cM245 e00).I c i) → R 0 τ) :
    VV E mLaw (d + 1) 0 [(0, aS 1000)] [] e00 (fun r _ => r = .inl (some (aI 1))) := by
  refine v_new (ci := 0) (z := 104) dL_0 rfl q616 q290 q253 (cn_ok wcX0 (by decide)) (cz_ok wcX0 (by decide)) ?_
  refine v_dup dL_3 rfl ?_
  refine v_invI (as := []) (b := 0) (st := [aO 0]) dL_4 rfl okX0_init (Or.inl q617) q618 q619 rfl npX0_init (ct_X0 (d := d) (by omega)) (Nat.le_of_ble_eq_true rfl) (Nat.le_refl _) (Nat.le_of_ble_eq_true rfl) (RV_ret (fun τ g e => ?_)) RV_thr
  subst e
  refine v_astore_n (L' := [(1, aO 0), (0, aS 1000)]) dL_7 rfl (by decide) rfl ?_
  refine v_new (ci := 9) (z := 166) dL_8 rfl q2185 q2186 q262 (cn_ok wcM0 (by decide)) (cz_ok wcM0 (by decide)) ?_
  rw [cnn wcM0]
  refine v_dup dL_11 rfl ?_
  refine v_invI (as := []) (b := 555) (st := [aO 555]) dL_12 rfl okX9_init (Or.inl q2187) q2188 q2189 rfl npX9_init (ct_X9 (d := d) (by omega)) (Nat.le_of_ble_eq_true rfl) (Nat.le_refl _) (Nat.le_of_ble_eq_true rfl) (RV_ret (fun τ g e => ?_)) RV_thr
  refine v_astore_n (L' := [(2, aO 555), (1, aO 0), (0, aS 1000)]) dL_15 rfl (by decide) rfl ?_
  refine v_iconst dL_16 ?_
  refine v_istore_n (L' := [(3, aI 0), (2, aO 555), (1, aO 0), (0, aS 1000)]) dL_17 rfl (by decide) rfl ?_
  exact law_loop ops hY hS 65 0 τ rfl (h0 τ e)

