/-! contracts: printed by tools/mk.py out of s98zzzzp_ini2.py -/
set_option maxRecDepth 100000
set_option maxHeartbeats 3000000
/-! the relation holds at the start -/
theorem ini_RR {τ : Sto} (h : RD (crun cM245 e00) τ fIni) : RR 0 τ := by
  have Z := ini_0 h
  have P := ini_p h
  have C := ini_c h
  have G := ini_f h
  have Rf := ini_R h
  have n1 := ini_n h
  have z1 := ini_z h
  have a1 := Z 0 1 (by omega) (by omega) (by omega)
  have a4 := Z 0 4 (by omega) (by omega) (by omega)
  have a9 := Z 0 9 (by omega) (by omega) (by omega)
  have a20 := Z 0 20 (by omega) (by omega) (by omega)
  have a22 := Z 0 22 (by omega) (by omega) (by omega)
  have a29 := Z 0 29 (by omega) (by omega) (by omega)
  have a30 := Z 0 30 (by omega) (by omega) (by omega)
  have a31 := Z 0 31 (by omega) (by omega) (by omega)
  have a32 := Z 0 32 (by omega) (by omega) (by omega)
  have a39 := Z 0 39 (by omega) (by omega) (by omega)
  have a40 := Z 0 40 (by omega) (by omega) (by omega)
  have a41 := Z 0 41 (by omega) (by omega) (by omega)
  have a42 := Z 0 42 (by omega) (by omega) (by omega)
  have a7 := Z 18 7 (by omega) (by omega) (by omega)
  refine ⟨ini_L h, ⟨⟨by omega, by omega⟩, by omega, by omega, by omega, fun i _ _ => by rw [Z 211 i (by omega) (by omega) (by omega)]; omega⟩, ?_⟩
  have rTP0 : rTP τ := ⟨⟨by rw [a1, Z 555 2 (by omega) (by omega) (by omega)], by omega⟩, fun i _ _ => by rw [Z 1 i (by omega) (by omega) (by omega), Z 557 i (by omega) (by omega) (by omega)]⟩
  have rFL0 : rFL τ := ⟨⟨by rw [a9, Z 555 27 (by omega) (by omega) (by omega)], by omega, by omega⟩, fun f _ q => by omega⟩
  have rVS0 : rVS τ := ⟨⟨by rw [a40, Z 555 53 (by omega) (by omega) (by omega)], by rw [a41, Z 555 54 (by omega) (by omega) (by omega)], by rw [a42, Z 555 55 (by omega) (by omega) (by omega)]⟩, by omega, fun i p q => by rw [(P i p q).1, (P i p q).2]; omega⟩
  have rOB0 : rOB τ := ⟨⟨by rw [a39, Z 555 52 (by omega) (by omega) (by omega)], by omega, by omega⟩, fun o p q => by omega, fun o p q => by omega, fun o _ _ => by rw [Z 42 o (by omega) (by omega) (by omega), Z 43 o (by omega) (by omega) (by omega)]; omega, fun o _ _ => by rw [Z 595 o (by omega) (by omega) (by omega), Z 596 o (by omega) (by omega) (by omega)]; omega, fun o _ _ => by rw [Z 591 o (by omega) (by omega) (by omega)]; omega⟩
  have rVA0 : rVA τ := by
    refine ⟨⟨⟨by rw [a20, Z 555 30 (by omega) (by omega) (by omega)], by rw [a31, Z 555 45 (by omega) (by omega) (by omega)], by rw [a22, Z 555 38 (by omega) (by omega) (by omega)], by rw [Z 555 44 (by omega) (by omega) (by omega)]; omega⟩, by omega, by omega, by omega⟩, ⟨Z 582 0 (by omega) (by omega) (by omega), ?_, ?_, ?_, ?_⟩, fun v p q => by omega, fun i p q => by omega⟩
    · rw [Z 582 _ (by omega) (by omega) (by omega), Z 555 44 (by omega) (by omega) (by omega)]
    · rw [a22, smP_0 _ _ _ (by omega)]
    · rw [a29, smP_0 _ _ _ (by omega)]
    · rw [a30, cn_0 _ _ (by omega)]
  have rBD0 : rBD τ := ⟨⟨fun i _ _ => by rw [Z 39 i (by omega) (by omega) (by omega)]; omega, fun i _ _ => by rw [Z 40 i (by omega) (by omega) (by omega)]; omega, fun i _ _ => by rw [Z 41 i (by omega) (by omega) (by omega)]; omega, fun i _ _ => by rw [Z 32 i (by omega) (by omega) (by omega)]; omega⟩, fun i _ _ => by rw [Z 587 i (by omega) (by omega) (by omega)]; omega, fun i _ _ => by rw [Z 590 i (by omega) (by omega) (by omega)]; omega, fun i _ _ => by rw [Z 584 i (by omega) (by omega) (by omega)]; omega, fun i _ _ => by rw [Z 21 i (by omega) (by omega) (by omega)]; omega, fun i _ _ => by rw [Z 20 i (by omega) (by omega) (by omega)]; omega⟩
  have rTE0 : rTE τ := by
    refine ⟨⟨⟨fun c p q => ?_, fun t p q => by omega⟩, fun s t p q u => by omega⟩, by omega, ?_, ⟨by omega, fun v p q => by omega⟩, fun s p q => by omega, ⟨fun t p q => by omega, fun k p q => ?_⟩, ⟨fun t p q => by omega, fun v p q => by omega⟩⟩
    · rw [C c p q, a7]
      rfl
    · rw [smP_0 _ _ _ (by omega), cn_0 _ _ (by omega)]
      omega
    · exfalso
      unfold tkAt at q
      rw [if_neg (by omega)] at q
      omega
  have rPK0 : rPK τ := by
    refine ⟨⟨by omega, by omega, ?_, fun k p q => by omega⟩, fun o p q => by omega, fun v _ _ => by rw [Z 27 v (by omega) (by omega) (by omega)]; omega⟩
    unfold ofsX
    rw [if_neg (by omega)]
    exact a31
  have rUS0 : rUS τ := by
    refine ⟨by rw [Z 0 46 (by omega) (by omega) (by omega), Z 555 61 (by omega) (by omega) (by omega)]; omega, fun f _ _ => ?_⟩
    rw [Z 600 _ (by omega) (by omega) (by omega), Z 600 _ (by omega) (by omega) (by omega), Z 600 _ (by omega) (by omega) (by omega), Z 230 2 (by omega) (by omega) (by omega), Z 245 2 (by omega) (by omega) (by omega), Z 260 2 (by omega) (by omega) (by omega)]
    have q : bt32 0 f ↔ (0 : Int) = 1 := ⟨fun x => absurd x (bt32_0 f), fun x => absurd x (by decide)⟩
    exact ⟨⟨Or.inl rfl, q⟩, ⟨Or.inl rfl, q⟩, Or.inl rfl, q⟩
  have rFO0 : rFO τ := ⟨by rw [Z 0 63 (by omega) (by omega) (by omega), Z 555 98 (by omega) (by omega) (by omega)]; omega, by rw [G.1.1, G.2.2.2]; omega, by rw [Z 0 65 (by omega) (by omega) (by omega), Z 555 132 (by omega) (by omega) (by omega)]; omega⟩
  have rSH0 : rSH τ := ⟨by rw [G.1.2.1, G.2.1]; omega, by rw [G.1.2.2, G.2.2.1]; omega, fun i _ _ => by rw [Z 210 i (by omega) (by omega) (by omega), Z 598 i (by omega) (by omega) (by omega), Z 211 i (by omega) (by omega) (by omega), Z 599 i (by omega) (by omega) (by omega)]; omega⟩
  have rSW0 : rSW τ := ⟨by rw [Z 4 5 (by omega) (by omega) (by omega), Z 555 24 (by omega) (by omega) (by omega)]; omega, fun i _ _ => by rw [Z 6 i (by omega) (by omega) (by omega)]; omega, fun i p q => by rw [Z 4 5 (by omega) (by omega) (by omega)] at q; omega⟩
  have a70 := Z 0 70 (by omega) (by omega) (by omega)
  have rHI0 : rHI τ := ⟨by rw [a70, Z 555 115 (by omega) (by omega) (by omega)]; omega, fun i p q => by omega, fun i j p q u => by omega, Or.inl (Z 0 71 (by omega) (by omega) (by omega)), by rw [Z 0 71 (by omega) (by omega) (by omega), Z 555 114 (by omega) (by omega) (by omega)], fun q => by omega, fun i _ _ => by rw [Z 637 i (by omega) (by omega) (by omega)]; omega⟩
  have rTT0 : rTT τ := ⟨by rw [Z 0 88 (by omega) (by omega) (by omega), Z 555 154 (by omega) (by omega) (by omega)]; omega, fun i _ _ => by rw [Z 205 i (by omega) (by omega) (by omega)]; omega, ⟨fun i _ _ => by rw [Z 668 i (by omega) (by omega) (by omega)]; omega, fun i _ _ => by rw [Z 668 _ (by omega) (by omega) (by omega)]; omega⟩, fun i p q => by rw [Z 0 88 (by omega) (by omega) (by omega)] at q; omega⟩
  have rMT0 : rMT τ := ⟨by rw [Z 0 94 (by omega) (by omega) (by omega), Z 555 160 (by omega) (by omega) (by omega)]; omega, fun i p q => by rw [Z 0 94 (by omega) (by omega) (by omega)] at q; omega⟩
  have rSC0 : rSC τ := by
    refine ⟨⟨⟨fun i _ _ => by rw [Z 12 i (by omega) (by omega) (by omega)]; omega, fun i _ _ => by rw [Z 108 i (by omega) (by omega) (by omega)]; omega, fun i _ _ => by rw [Z 110 i (by omega) (by omega) (by omega)]; omega, fun i _ _ => by rw [Z 119 i (by omega) (by omega) (by omega)]; omega, fun i _ _ => by rw [Z 113 i (by omega) (by omega) (by omega)]; omega⟩, ⟨fun i _ _ => by rw [Z 12 i (by omega) (by omega) (by omega)]; omega, fun i _ _ => by rw [Z 142 i (by omega) (by omega) (by omega)]; omega, fun i _ _ => by rw [Z 144 i (by omega) (by omega) (by omega)]; omega, fun i _ _ => by rw [Z 153 i (by omega) (by omega) (by omega)]; omega, fun i _ _ => by rw [Z 147 i (by omega) (by omega) (by omega)]; omega⟩, ⟨fun i _ _ => by rw [Z 12 i (by omega) (by omega) (by omega)]; omega, fun i _ _ => by rw [Z 176 i (by omega) (by omega) (by omega)]; omega, fun i _ _ => by rw [Z 178 i (by omega) (by omega) (by omega)]; omega, fun i _ _ => by rw [Z 187 i (by omega) (by omega) (by omega)]; omega, fun i _ _ => by rw [Z 181 i (by omega) (by omega) (by omega)]; omega⟩⟩, fun t _ _ => Z 206 t (by omega) (by omega) (by omega), fun t _ _ => Z 199 t (by omega) (by omega) (by omega), fun i _ _ => by rw [Z 201 i (by omega) (by omega) (by omega)]; omega, fun i _ _ => by rw [Z 207 i (by omega) (by omega) (by omega)]; omega, ⟨fun i _ _ => by rw [Z 635 i (by omega) (by omega) (by omega)]; omega, fun i _ _ => by rw [Z 573 i (by omega) (by omega) (by omega)]; omega, fun i _ _ => by rw [Z 630 i (by omega) (by omega) (by omega)]; omega, fun i _ _ => by rw [Z 629 i (by omega) (by omega) (by omega)]; omega, fun i _ _ => by rw [Z 633 i (by omega) (by omega) (by omega)]; omega, fun i _ _ => by rw [Z 622 i (by omega) (by omega) (by omega)]; omega, fun i _ _ => by rw [Z 621 i (by omega) (by omega) (by omega)]; omega⟩, fun i _ _ => by rw [Z 662 i (by omega) (by omega) (by omega)]; omega⟩
  have rQU0 : rQU τ := ⟨⟨Or.inl (Z 0 48 (by omega) (by omega) (by omega)), by rw [Z 555 66 (by omega) (by omega) (by omega)]; omega, by rw [Z 0 48 (by omega) (by omega) (by omega), Z 555 66 (by omega) (by omega) (by omega)]⟩, by rw [Z 51 1 (by omega) (by omega) (by omega), Z 51 2 (by omega) (by omega) (by omega)]; omega, fun q => by rw [Z 0 48 (by omega) (by omega) (by omega)] at q; omega⟩
  have rKQ0 : rKQ τ := ⟨by rw [Z 0 51 (by omega) (by omega) (by omega), Z 555 71 (by omega) (by omega) (by omega)]; omega, fun i _ _ => by rw [Z 605 i (by omega) (by omega) (by omega)]; omega, fun j q => by rw [Z 0 51 (by omega) (by omega) (by omega)] at q; omega⟩
  have rHQ0 : rHQ τ := ⟨Z 608 0 (by omega) (by omega) (by omega), Z 215 1 (by omega) (by omega) (by omega), fun u _ _ => ⟨Or.inl (Z _ 1 (by omega) (by omega) (by omega)), by rw [Z 608 _ (by omega) (by omega) (by omega)]; omega, by rw [Z (215 + 15 * u) 1 (by omega) (by omega) (by omega), Z 608 _ (by omega) (by omega) (by omega)]; omega, fun q => by rw [Z (215 + 15 * u) 1 (by omega) (by omega) (by omega)] at q; omega⟩⟩
  have rPP0 : rPP τ := ⟨by rw [Z 0 100 (by omega) (by omega) (by omega), Z 555 164 (by omega) (by omega) (by omega)]; omega, 673, 674, Rf.2.1, Rf.2.2, Or.inl ⟨rfl, rfl⟩, fun i p q => by rw [Z 0 100 (by omega) (by omega) (by omega)] at q; omega⟩
  have rAN0 : rAN τ := by
    refine ⟨by rw [a4, Z 555 3 (by omega) (by omega) (by omega)]; omega, fun k p q => by omega, fun k p q => by omega, fun k p q b e => ?_, ⟨fun i _ _ => by rw [Z 558 i (by omega) (by omega) (by omega)]; omega, fun i _ _ => by rw [Z 559 i (by omega) (by omega) (by omega)]; omega, fun i _ _ => by rw [Z 560 i (by omega) (by omega) (by omega)]; omega, fun i _ _ => by rw [Z 561 i (by omega) (by omega) (by omega)]; omega, fun i _ _ => by rw [Z 562 i (by omega) (by omega) (by omega)]; omega, fun i _ _ => by rw [Z 564 i (by omega) (by omega) (by omega)]; omega⟩, fun k p q b e => ?_, fun j k a b p q u e _ => ?_, fun k p q => by omega⟩
    · rw [Rf.1 k p q] at e; cases e
    · rw [Rf.1 k p q] at e; cases e
    · rw [Rf.1 j p (by omega)] at e; cases e
  exact ⟨rTP0, rFL0, rVS0, rOB0, rVA0, rBD0, rTE0, rPK0, rUS0, rFO0, rSH0, rSW0, rHI0, LN_0 (Z 0 59 (by omega) (by omega) (by omega)) (Z 555 133 (by omega) (by omega) (by omega)), MK_0 (Z 0 75 (by omega) (by omega) (by omega)) (Z 555 134 (by omega) (by omega) (by omega)), GRz_0 (Z 0 79 (by omega) (by omega) (by omega)) (Z 555 135 (by omega) (by omega) (by omega)), rTT0, rMT0, rSC0, rQU0, rKQ0, rHQ0, rPP0, rAN0, trivial⟩

