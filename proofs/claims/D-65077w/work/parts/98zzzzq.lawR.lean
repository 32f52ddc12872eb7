/-! contracts: printed by tools/mk.py out of s98zzzzq_lawR.py -/
set_option maxRecDepth 100000
set_option maxHeartbeats 800000
/-! the law out of its operations -/
theorem law_R {E : XE} {d : Nat} (hd : 20 ≤ d) (ops : OPS E d RR) : VV E mLaw (d + 1) 0 [(0, aS 1000)] [] e00 (fun r _ => r = .inl (some (aI 1))) := law_start hd ops (fun _ _ r => r.Lay) RR.up (fun τ h => ini_RR h)

