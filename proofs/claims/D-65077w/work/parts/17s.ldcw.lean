/-! String constants by wide entries -/
section VLDCW
variable {E : XE} {M : MI} {d pc pc' : Nat} {L L' : List (Nat × AV)} {st : List AV} {σ : Sto} {Q : Res → Sto → Prop}
theorem v_ldcSw {index i : Nat} {tx : String} (hd : DD M.cc pc 3 pc' (.ldc_w index)) (hs : strR[i]? = some (M.y.cls, index, tx)) (h : VV E M d pc' L (aS i :: st) σ Q) : VV E M d pc L st σ Q := by
  obtain ⟨hd, rfl⟩ := hd
  intro p l e R s m args below meth c n0 s0 σ0 hC H locs hR hlo hN ls hl
  have hZ := hC.sx.1 i _ hs
  intro T hT X
  obtain ⟨t, a1, b1⟩ := (h p l e R s m args below meth c n0 s0 σ0 hC H locs hR hlo hN ls hl) T hT X
  refine ⟨t, ?_, b1⟩
  obtain ⟨k, cf, j, a', hk, hcf, hcp, -, hr, hev'⟩ := Cond.stringRef_spec hC.own hZ.1
  cases hZ.2.symm.trans hev'
  obtain ⟨k', hk', he⟩ := X.warmed.alike.2.2 _ _ hk
  have hr' : k'.resolved[index]? = some (some (.string (E.sa i))) := by
    rcases X.warmed.entry hk hk' index with h | ⟨h, -⟩
    · rw [h]; exact hr
    · rw [hr] at h; cases h
  have hdg : decode c.code (F0 m pc ls (st.map (cv E))).pc = .ok (.ldc_w index, 3) := by rw [hC.by]; exact hd
  jvm_step X.here [hC.ex, hdg, ldc_w.wp_string (e := e) (s := T) (f := F0 m pc ls (st.map (cv E))) X.here.top hk' (by rw [he]; exact hcf) hcp hr']
  exact a1
end VLDCW
