/-! contracts: printed by tools/mk.py out of s98zzzzzn_lfn.py -/
set_option maxRecDepth 100000
set_option maxHeartbeats 2000000
/-! leaves of a question, in both: what they are worth -/
/-- a leaf of the program's table and one of the model's: one row -/
def ROWL (σ : Sto) (o : Nat) (x n : Int) : Prop := (σ.I (o + 3) x = σ.I 609 n ∧ σ.I (o + 8) x = σ.I 614 n ∧ σ.I (o + 11) x = σ.I 617 n) ∧ (lfk (σ.I 609 n) → σ.I (o + 9) x = σ.I 615 n ∧ σ.I (o + 10) x = σ.I 616 n) ∧ (σ.I 609 n = 9 ∨ σ.I 609 n = 10 → σ.I (o + 12) x = σ.I 618 n ∧ σ.I (o + 13) x = σ.I 619 n) ∧ (σ.I 609 n = 10 → σ.I (o + 14) x = σ.I 620 n)
/-- a leaf of the model's is well made -/
def NODL (σ : Sto) (n : Int) : Prop := (7 ≤ σ.I 609 n ∧ σ.I 609 n ≤ 12) ∧ (0 ≤ σ.I 614 n ∧ σ.I 614 n < σ.I 0 9) ∧ (lfk (σ.I 609 n) → 0 ≤ σ.I 615 n ∧ σ.I 615 n ≤ σ.I 616 n ∧ σ.I 616 n ≤ σ.I 555 77) ∧ ((σ.I 609 n = 7 → σ.I 16 (σ.I 614 n) = 0) ∧ (σ.I 609 n = 8 → σ.I 16 (σ.I 614 n) = 1) ∧ (σ.I 609 n = 9 → σ.I 16 (σ.I 614 n) = 2) ∧ (σ.I 609 n = 10 → σ.I 16 (σ.I 614 n) = 3))
section LFN
variable {σ : Sto} {o : Nat}
theorem pk2_un {x y : Int} (hx : -1000000 ≤ x ∧ x ≤ 1000000) (hy : -1000000 ≤ y ∧ y ≤ 1000000) : b64shr (pk2 x y) 32 = x ∧ w32 (pk2 x y) = y := by
  constructor
  · rw [shr64 ⟨by unfold pk2; omega, by unfold pk2; omega⟩ (show inR 32 from ⟨by omega, by omega⟩)]
    show pk2 x y / 4294967296 = x
    unfold pk2; omega
  · unfold w32 pk2; omega
theorem vt_l {f a m : Int} (hb : ∀ i, 0 ≤ i → i < σ.I 555 77 → σ.I (o + 2) i = qb σ i) (a0 : 0 ≤ a) (h : a + m ≤ σ.I 555 77) : ls (tQ σ f (σ.I (o + 2)) a m) (σ.I 18 7) = ls (tQ σ f (σ.I (src σ)) (σ.I 555 75 + a) m) (σ.I 18 7) := by
  refine ls_cg (fun s _ _ => ?_)
  have e : ∀ k, 0 ≤ k → k < m → σ.I (o + 2) (a + k) = σ.I (src σ) (σ.I 555 75 + a + k) := fun k k0 k1 => by
    rw [hb (a + k) (by omega) (by omega)]
    unfold qb
    rw [Int.add_assoc]
  constructor
  · rintro ⟨p, q⟩
    exact ⟨p, fun k k0 k1 => (q k k0 k1).trans (e k k0 k1)⟩
  · rintro ⟨p, q⟩
    exact ⟨p, fun k k0 k1 => (q k k0 k1).trans (e k k0 k1).symm⟩
theorem ix_l (va : rVA σ) (fl : rFL σ) (te : rTE σ) (ob : rOB σ) (pk : rPK σ) (wl : WLK σ o) {f : Int} {l : TL} (f2 : σ.I 602 f = 1) (h17 : σ.I (o + 17) f = hwM σ f) : ixX σ o f (tkAt σ (σ.I 0 31)) (σ.I 0 31) l = idL σ f l := by
  funext j
  have d := dl_l va fl te ob pk wl (f := f) (i := 0) (n := l.2.1 j) (A := l.2.2.1 j) f2
  have d' : dL σ f l j = if 0 ≤ tmX σ f l j then owX σ (o + 15) (tmX σ f l j) (tkAt σ (σ.I 0 31)) (σ.I 0 31) else 0 := d
  unfold ixX idL
  rw [h17]
  by_cases c : 0 ≤ tmX σ f l j
  · rw [if_pos c] at d'
    rw [d']
    by_cases z : 0 < owX σ (o + 15) (tmX σ f l j) (tkAt σ (σ.I 0 31)) (σ.I 0 31)
    · rw [if_pos ⟨c, z⟩, if_pos z]
    · rw [if_neg (fun q => z q.2), if_neg z]
  · rw [if_neg c] at d'
    rw [d', if_neg (fun q => c q.1), if_neg (by omega)]
theorem sm_l (va : rVA σ) (fl : rFL σ) (te : rTE σ) (ob : rOB σ) (pk : rPK σ) (wl : WLK σ o) {f : Int} {l : TL} (f2 : σ.I 602 f = 1) (h17 : σ.I (o + 17) f = hwM σ f) (q : Int) : smX σ o f (tkAt σ (σ.I 0 31)) (σ.I 0 31) l q = smL σ f l q := by
  unfold smX smL
  have e : plX σ o f (tkAt σ (σ.I 0 31)) (σ.I 0 31) l = plL σ f l := by
    funext p
    unfold plX plL
    rw [ix_l va fl te ob pk wl f2 h17]
  rw [e]
theorem cL_nn {f sl k m : Int} {l : TL} : 0 ≤ cL σ f l sl k m := by
  unfold cL
  refine smP_n0 (fun j _ _ => ?_)
  unfold mtL mtc
  have := cn_in (fun x => sqL σ l (mL l) (σ.I 595 k + j) 0 x ∧ mAt (sqL σ l (mL l) (σ.I 595 k + j)) (pPl l.2.2.2.2.2 l.1) (nL l) sl x) 500
  omega
theorem cL_0 {f sl k m : Int} {l : TL} (h : σ.I 602 f ≠ 1) : cL σ f l sl k m = 0 := by
  unfold cL
  by_cases c : 0 ≤ m
  · exact smP_z c (fun j _ _ q => absurd q.2 h)
  · exact smP_0 _ _ _ (by omega)
/-- a leaf that is a text -/
theorem lf_7 (va : rVA σ) (fl : rFL σ) (te : rTE σ) (ob : rOB σ) (pk : rPK σ) (wl : WLK σ o) {x n k : Int} {lx lf : Int → TL} (r : ROWL σ o x n) (nd : NODL σ n) (k7 : σ.I 609 n = 7) (hl : lx x = lf n) (hs : shF σ o (σ.I 614 n) = 1 ↔ σ.I 602 (σ.I 614 n) = 1) (h98 : σ.I o 2 = σ.I 555 98) (h17 : σ.I (o + 17) (σ.I 614 n) = hvX σ (o + 15) (σ.I 614 n) (σ.I 0 39)) (h18 : σ.I (o + 18) (σ.I 614 n) = tkX σ (o + 15) (σ.I 614 n) (σ.I 0 39))
    (h22 : σ.I (o + 22) x = svX σ o lx (tkAt σ (σ.I 0 31)) (σ.I 0 31) x) (h23 : σ.I (o + 23) (601 * σ.I (o + 21) x + k) = fvX σ o lx (tkAt σ (σ.I 0 31)) (σ.I 0 31) x k) (k0 : 0 ≤ k) (k1 : k < 601) (kw : σ.I 601 k = 1) : lfX σ o x k = LfM σ lf n k := by
  obtain ⟨⟨e3, e8, e11⟩, -, -, -⟩ := r
  have f0 := nd.2.2.2.1 k7
  have kk := wl.2.2 k k0 k1 kw
  have s16 := (wl.2.1 k k0 kk.1).mpr kw
  have sn16 : sn σ (o + 15) k := s16
  have eR : LfM σ lf n k = txV σ (lf n) n k := by unfold LfM; rw [if_pos k7]
  have eL : lfX σ o x k = if σ.I (o + 23) (601 * σ.I (o + 21) x + k) = 0 then -1 else wgh (σ.I o 2) (σ.I (o + 22) x) (σ.I (o + 23) (601 * σ.I (o + 21) x + k)) (σ.I (o + 18) (σ.I (o + 8) x)) (xTO σ (σ.I (o + 8) x) k) (σ.I (o + 17) (σ.I (o + 8) x)) := by
    unfold lfX
    rw [e3, k7, if_neg (show ¬ (7 : Int) = 8 by decide), if_pos (show (7 : Int) = 7 from rfl)]
  rw [eL, eR, h23, h22, e8]
  unfold fvX svX txV
  rw [e3, k7, e8, e11, hl, if_pos (show (7 : Int) = 7 from rfl), if_pos (show (7 : Int) = 7 from rfl)]
  by_cases c : σ.I 602 (σ.I 614 n) = 1
  · have s1 := hs.mpr c
    rw [if_pos s1, if_pos s1, h17, h18, hv_l va ob pk wl c, tk_l va ob pk wl f0 c, sm_l va fl te ob pk wl c (h17.trans (hv_l va ob pk wl c)), h98, to_l va ob pk f0 c k0 kk.1 kk.2]
    have ef : foX σ o (σ.I 614 n) (lf n) (σ.I 617 n) (σ.I 0 31) k = cLo σ (lf n) n k := by
      unfold foX cLo
      rw [if_pos wl.1.2.2, if_pos (zb_t sn16), fo_cl va fl te ob pk f0 c k0 kk.1 kk.2]
    rw [ef]
    have nn : 0 ≤ cLo σ (lf n) n k := cL_nn
    by_cases z : cLo σ (lf n) n k = 0
    · rw [if_pos z, if_neg (by rw [zb_f (fun q => by omega)]; omega)]
    · rw [if_neg z, if_pos (zb_t ⟨kw, by omega⟩)]
  · have s1 : ¬ shF σ o (σ.I 614 n) = 1 := fun z => c (hs.mp z)
    rw [if_neg s1, if_pos (show (0 : Int) = 0 from rfl)]
    have z : cLo σ (lf n) n k = 0 := cL_0 c
    rw [if_neg (by rw [zb_f (fun q => by omega)]; omega)]
theorem mht_0 {f i n k : Int} {A : Int → Int} (h : σ.I 602 f ≠ 1) : ¬ mHT σ f A i n k := by
  rintro ⟨j, _, _, ⟨_, e⟩, _⟩
  exact h e
/-- a leaf that is a whole value -/
theorem lf_8 (va : rVA σ) (fl : rFL σ) (te : rTE σ) (ob : rOB σ) (pk : rPK σ) (wl : WLK σ o) {x n k : Int} {lx lf : Int → TL} (r : ROWL σ o x n) (nd : NODL σ n) (k8 : σ.I 609 n = 8) (hb : ∀ i, 0 ≤ i → i < σ.I 555 77 → σ.I (o + 2) i = qb σ i) (hs : shF σ o (σ.I 614 n) = 1 ↔ σ.I 602 (σ.I 614 n) = 1) (h98 : σ.I o 2 = σ.I 555 98) (h17 : σ.I (o + 17) (σ.I 614 n) = hvX σ (o + 15) (σ.I 614 n) (σ.I 0 39))
    (h22 : σ.I (o + 22) x = svX σ o lx (tkAt σ (σ.I 0 31)) (σ.I 0 31) x) (h23 : σ.I (o + 23) (601 * σ.I (o + 21) x + k) = fvX σ o lx (tkAt σ (σ.I 0 31)) (σ.I 0 31) x k) (k0 : 0 ≤ k) (k1 : k < 601) (kw : σ.I 601 k = 1) : lfX σ o x k = LfM σ lf n k := by
  obtain ⟨⟨e3, e8, e11⟩, r1, -, -⟩ := r
  have lk : lfk (σ.I 609 n) := Or.inr (Or.inl k8)
  obtain ⟨e9, e10⟩ := r1 lk
  have tx := nd.2.2.1 lk
  have kk := wl.2.2 k k0 k1 kw
  have s16 := (wl.2.1 k k0 kk.1).mpr kw
  have evt : vtX σ o x = ls (tQ σ (σ.I 614 n) (σ.I (src σ)) (σ.I 555 75 + σ.I 615 n) (vaZ σ n)) (σ.I 18 7) := by
    unfold vtX vaZ
    rw [e8, e9, e10]
    exact vt_l hb tx.1 (by omega)
  have eR : LfM σ lf n k = vaV σ n k := by unfold LfM; rw [if_neg (show ¬ σ.I 609 n = 7 by omega), if_pos k8]
  have eL : lfX σ o x k = if σ.I (o + 23) (601 * σ.I (o + 21) x + k) = 0 then -1 else if σ.I o 2 = 2 then 64 else σ.I (o + 22) x := by
    unfold lfX
    rw [e3, k8, if_pos (show (8 : Int) = 8 from rfl)]
  rw [eL, eR, h23, h22]
  unfold fvX svX vaV vaS
  rw [e3, k8, if_neg (show ¬ (8 : Int) = 7 by decide), if_neg (show ¬ (8 : Int) = 7 by decide), e8]
  by_cases c : σ.I 602 (σ.I 614 n) = 1
  · have s1 := hs.mpr c
    have m := mht_l va fl te ob pk (i := σ.I 555 75 + σ.I 615 n) (n := vaZ σ n) (A := σ.I (src σ)) k0 kk.1 kk.2 c
    have d := dl_l va fl te ob pk wl (i := σ.I 555 75 + σ.I 615 n) (n := vaZ σ n) (A := σ.I (src σ)) c
    rw [← evt] at m d
    rw [if_pos s1, if_pos s1]
    have eo : otQ σ o x (tkAt σ (σ.I 0 31)) (σ.I 0 31) k ↔ (0 ≤ vtX σ o x ∧ σ.I 616 n ≠ σ.I 615 n) ∧ HTk σ (vtX σ o x) k := by
      unfold otQ oqV
      rw [e3, k8, e9, e10]
      constructor
      · rintro (⟨-, a, b, q⟩ | ⟨q, -⟩ | ⟨q, -⟩)
        · exact ⟨⟨a, b⟩, ((mk_l va fl pk wl.1.2.2 k0 kk.1).mp q).2⟩
        · omega
        · exact absurd ⟨by decide, by decide⟩ q
      · rintro ⟨⟨a, b⟩, q⟩
        exact Or.inl ⟨rfl, a, b, (mk_l va fl pk wl.1.2.2 k0 kk.1).mpr ⟨s16, q⟩⟩
    by_cases z : (0 ≤ vtX σ o x ∧ σ.I 616 n ≠ σ.I 615 n) ∧ HTk σ (vtX σ o x) k
    · rw [zb_t (eo.mpr z), if_neg (by decide), if_pos (zb_t ⟨kw, by unfold vaZ; omega, m.mpr ⟨z.1.1, z.2⟩⟩), h98]
      by_cases y : σ.I 555 98 = 2
      · rw [if_pos y, if_pos y]
      · rw [if_neg y, if_neg y, if_pos ⟨(show (8 : Int) = 8 from rfl), z.1.1, by rw [e9, e10]; exact z.1.2⟩, h17, hv_l va ob pk wl c]
        rw [if_pos z.1.1] at d
        have d2 : cn (fun k => σ.I 601 k = 1 ∧ mHV σ (σ.I 614 n) k) 601 = hwM σ (σ.I 614 n) := rfl
        rw [d, d2]
    · rw [zb_f (fun q => z (eo.mp q)), if_pos rfl, if_neg (fun q => ?_)]
      obtain ⟨-, q1, q2⟩ := zb_1.mp q
      have q3 := m.mp q2
      unfold vaZ at q1
      exact z ⟨⟨q3.1, by omega⟩, q3.2⟩
  · have s1 : ¬ shF σ o (σ.I 614 n) = 1 := fun z => c (hs.mp z)
    rw [if_neg s1, if_pos rfl, if_neg (fun q => mht_0 c (zb_1.mp q).2.2)]
/-- a leaf that is a number's range or a place's -/
theorem lf_9 (va : rVA σ) (ob : rOB σ) (pk : rPK σ) (wl : WLK σ o) {x n k : Int} {lx lf : Int → TL} (r : ROWL σ o x n) (nd : NODL σ n) (k9 : σ.I 609 n = 9 ∨ σ.I 609 n = 10) (hs : shF σ o (σ.I 614 n) = 1 ↔ σ.I 602 (σ.I 614 n) = 1) (h23 : σ.I (o + 23) (601 * σ.I (o + 21) x + k) = fvX σ o lx (tkAt σ (σ.I 0 31)) (σ.I 0 31) x k) (k0 : 0 ≤ k) (k1 : k < 601) (kw : σ.I 601 k = 1) : lfX σ o x k = LfM σ lf n k := by
  obtain ⟨⟨e3, e8, e11⟩, -, r2, r3⟩ := r
  obtain ⟨e12, e13⟩ := r2 k9
  have kk := wl.2.2 k k0 k1 kw
  have s16 := (wl.2.1 k k0 kk.1).mpr kw
  have w := ob_l ob pk k0 kk.1 kk.2
  have dr := va.1.2.1
  have eR : LfM σ lf n k = if zb (hlM σ n k) = 1 then 64 else -1 := by unfold LfM; rw [if_neg (show ¬ σ.I 609 n = 7 by omega), if_neg (show ¬ σ.I 609 n = 8 by omega)]
  have eL : lfX σ o x k = if σ.I (o + 23) (601 * σ.I (o + 21) x + k) = 0 then -1 else 64 := by
    unfold lfX
    rw [e3, if_neg (show ¬ σ.I 609 n = 8 by omega), if_neg (show ¬ σ.I 609 n = 7 by omega)]
  rw [eL, eR, h23]
  unfold fvX
  rw [e3, if_neg (show ¬ σ.I 609 n = 7 by omega), e8]
  by_cases c : σ.I 602 (σ.I 614 n) = 1
  · have s1 := hs.mpr c
    rw [if_pos s1]
    have one : ∀ j, 0 ≤ j → j < σ.I 43 k → (lvX σ o x (σ.I 42 k + j) ↔ (mV σ (σ.I 614 n) (σ.I 42 k + j) ∧ lfM σ n (σ.I 42 k + j))) := fun j j0 j1 => by
      have z := (va.2.2.1 (σ.I 42 k + j) (by omega) (by omega)).2.2
      obtain ⟨z1, -, -, -, -, -, z7, z8, -⟩ := z
      unfold lvX mV lfM
      rw [e8, e3, ← z1.1]
      constructor
      · rintro ⟨a, b⟩
        refine ⟨⟨a, c⟩, ?_⟩
        rcases b with ⟨b1, b2, b3⟩ | ⟨b1, b2⟩
        · rw [z7 (by rw [a]; exact nd.2.2.2.2.2.1 b1), e12] at b2
          rw [z7 (by rw [a]; exact nd.2.2.2.2.2.1 b1), e13] at b3
          exact Or.inl ⟨b1, b2, b3⟩
        · have k10 : σ.I 609 n = 10 := by omega
          obtain ⟨y1, y2, y3⟩ := z8 (by rw [a]; exact nd.2.2.2.2.2.2 k10)
          have u := pk2_un y2 y3
          rw [y1, u.1, u.2, e12, e13, r3 k10] at b2
          exact Or.inr (Or.inl ⟨k10, b2⟩)
      · rintro ⟨⟨a, -⟩, b⟩
        refine ⟨a, ?_⟩
        rcases b with ⟨b1, b2, b3⟩ | ⟨k10, b2⟩ | ⟨b1, -⟩
        · refine Or.inl ⟨b1, ?_, ?_⟩
          · rw [z7 (by rw [a]; exact nd.2.2.2.2.2.1 b1), e12]; exact b2
          · rw [z7 (by rw [a]; exact nd.2.2.2.2.2.1 b1), e13]; exact b3
        · obtain ⟨y1, y2, y3⟩ := z8 (by rw [a]; exact nd.2.2.2.2.2.2 k10)
          have u := pk2_un y2 y3
          refine Or.inr ⟨by omega, ?_⟩
          rw [y1, u.1, u.2, e12, e13, r3 k10]
          exact b2
        · omega
    have eo : otQ σ o x (tkAt σ (σ.I 0 31)) (σ.I 0 31) k ↔ hlM σ n k := by
      unfold otQ oqR hlM
      rw [e3, ← w.1.1, ← w.1.2]
      constructor
      · rintro (⟨q, -⟩ | ⟨-, -, -, j, j0, j1, q⟩ | ⟨q, -⟩)
        · omega
        · exact ⟨j, j0, j1, (one j j0 j1).mp q⟩
        · exact absurd ⟨by omega, by omega⟩ q
      · rintro ⟨j, j0, j1, q⟩
        exact Or.inr (Or.inl ⟨k9, ⟨by rw [wl.1.1]; exact k0, by rw [wl.1.2.1]; exact kk.1⟩, s16, j, j0, j1, (one j j0 j1).mpr q⟩)
    rw [zb_iff eo]
    by_cases z : hlM σ n k
    · rw [zb_t z, if_neg (by decide), if_pos rfl]
    · rw [zb_f z, if_pos rfl, if_neg (by decide)]
  · have s1 : ¬ shF σ o (σ.I 614 n) = 1 := fun z => c (hs.mp z)
    have nz : ¬ hlM σ n k := by
      rintro ⟨j, _, _, ⟨_, e⟩, _⟩
      exact c e
    rw [if_neg s1, if_pos rfl, zb_f nz, if_neg (by decide)]
/-- a leaf that is a pattern -/
theorem lf_11 (va : rVA σ) (fl : rFL σ) (te : rTE σ) (ob : rOB σ) (pk : rPK σ) (an : rAN σ) (b21 : ∀ s, 0 ≤ s → s < σ.I 18 7 → 0 ≤ σ.I 21 s) (wl : WLK σ o) {x n k : Int} {lx lf : Int → TL} (r : ROWL σ o x n) (nd : NODL σ n) (k11 : 11 ≤ σ.I 609 n) (hb : ∀ i, 0 ≤ i → i < σ.I 555 77 → σ.I (o + 2) i = qb σ i) (hs : shF σ o (σ.I 614 n) = 1 ↔ σ.I 602 (σ.I 614 n) = 1) (h23 : σ.I (o + 23) (601 * σ.I (o + 21) x + k) = fvX σ o lx (tkAt σ (σ.I 0 31)) (σ.I 0 31) x k) (k0 : 0 ≤ k) (k1 : k < 601) (kw : σ.I 601 k = 1) : lfX σ o x k = LfM σ lf n k := by
  obtain ⟨⟨e3, e8, e11⟩, r1, -, -⟩ := r
  have k12 := nd.1.2
  have lk : lfk (σ.I 609 n) := by unfold lfk; omega
  obtain ⟨e9, e10⟩ := r1 lk
  have tx := nd.2.2.1 lk
  have kk := wl.2.2 k k0 k1 kw
  have s16 := (wl.2.1 k k0 kk.1).mpr kw
  have w := ob_l ob pk k0 kk.1 kk.2
  have ff := fl.2 _ nd.2.1.1 nd.2.1.2
  have ept : ∀ m, 0 ≤ m → m < σ.I 616 n - σ.I 615 n → ptX σ o x m = ptM σ n m := fun m m0 m1 => by
    unfold ptX ptM
    rw [e8, e9, hb (σ.I 615 n + m) (by omega) (by omega), ff.1.1, ff.1.2]
    by_cases c : σ.I 577 (σ.I 614 n) = 0
    · have g := ff.2.2.1 (by rw [ff.1.1]; exact c)
      rw [ff.1.2] at g
      rw [(an.2.2.2.2.2.2.2 _ g.1 g.2).1.1.1]
    · rw [if_neg (fun z => c z.1), if_neg (fun z => c z.1)]
  have efit : ∀ b s, (0 ≤ s ∧ s < σ.I 18 7) → σ.I 20 s = σ.I 614 n → σ.I 21 s = σ.I 587 b → (∀ i, 0 ≤ i → i < σ.I 587 b → σ.I 19 (20 * s + i) = σ.I 586 (20 * b + i)) → (fitM σ n b ↔ fitX σ o x s) := fun b s s0 _ q1 q2 => by
    have n0 := b21 s s0.1 s0.2
    unfold fitM fitX
    rw [e3, e9, e10, e11, q1]
    have a1 := wd_cg (P := ptX σ o x) (P' := ptM σ n) (m := σ.I 616 n - σ.I 615 n) (A := σ.I 19) (A' := σ.I 586) (a := 20 * s) (a' := 20 * b) (n := σ.I 587 b) ept q2
    have a2 := ed_cg (A := ptX σ o x) (A' := ptM σ n) (a := 0) (a' := 0) (B := σ.I 19) (B' := σ.I 586) (b := 20 * s) (b' := 20 * b) (m := σ.I 616 n - σ.I 615 n) (n := σ.I 587 b) (fun k x y => by rw [Int.zero_add]; exact ept k x y) q2 (σ.I 616 n - σ.I 615 n) (σ.I 587 b) (by omega) (Int.le_refl _) (by omega) (Int.le_refl _)
    rw [a1, a2]
  have eR : LfM σ lf n k = if zb (hlM σ n k) = 1 then 64 else -1 := by unfold LfM; rw [if_neg (show ¬ σ.I 609 n = 7 by omega), if_neg (show ¬ σ.I 609 n = 8 by omega)]
  have eL : lfX σ o x k = if σ.I (o + 23) (601 * σ.I (o + 21) x + k) = 0 then -1 else 64 := by
    unfold lfX
    rw [e3, if_neg (show ¬ σ.I 609 n = 8 by omega), if_neg (show ¬ σ.I 609 n = 7 by omega)]
  rw [eL, eR, h23]
  unfold fvX
  rw [e3, if_neg (show ¬ σ.I 609 n = 7 by omega), e8]
  by_cases c : σ.I 602 (σ.I 614 n) = 1
  · have s1 := hs.mpr c
    rw [if_pos s1]
    have key := row_t va fl ob pk k0 kk.1 kk.2 c (P := fitX σ o x) (R := fitM σ n) efit
    have eo : otQ σ o x (tkAt σ (σ.I 0 31)) (σ.I 0 31) k ↔ hlM σ n k := by
      have e1 : hlM σ n k ↔ exN (fun j => mV σ (σ.I 614 n) (σ.I 595 k + j) ∧ exN (fun t => fitM σ n (σ.I 582 (σ.I 595 k + j) + t)) (tcM σ (σ.I 595 k + j))) (σ.I 596 k) := by
        unfold hlM lfM
        constructor
        · rintro ⟨j, j0, j1, q1, q2⟩
          rcases q2 with q | q | q
          · omega
          · omega
          · exact ⟨j, j0, j1, q1, q.2⟩
        · rintro ⟨j, j0, j1, q1, q2⟩
          exact ⟨j, j0, j1, q1, Or.inr (Or.inr ⟨k11, q2⟩)⟩
      rw [e1, key]
      unfold otQ oqW
      rw [e3, e8]
      constructor
      · rintro (⟨q, -⟩ | ⟨q, -⟩ | ⟨-, s, s0, s2, q1, q2, q3⟩)
        · omega
        · omega
        · exact ⟨s, ⟨s0, s2⟩, q1, q2, ((mk_l va fl pk wl.1.2.2 k0 kk.1).mp q3).2⟩
      · rintro ⟨s, s0, q1, q2, q3⟩
        exact Or.inr (Or.inr ⟨fun z => by omega, s, s0.1, s0.2, q1, q2, (mk_l va fl pk wl.1.2.2 k0 kk.1).mpr ⟨s16, q3⟩⟩)
    rw [zb_iff eo]
    by_cases z : hlM σ n k
    · rw [zb_t z, if_neg (by decide), if_pos rfl]
    · rw [zb_f z, if_pos rfl, if_neg (by decide)]
  · have s1 : ¬ shF σ o (σ.I 614 n) = 1 := fun z => c (hs.mp z)
    have nz : ¬ hlM σ n k := by
      rintro ⟨j, _, _, ⟨_, e⟩, _⟩
      exact c e
    rw [if_neg s1, if_pos rfl, zb_f nz, if_neg (by decide)]
end LFN

