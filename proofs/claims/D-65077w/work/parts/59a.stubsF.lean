section
/-! contracts: printed by tools/mk.py out of s98e_txtM.py -/
set_option maxRecDepth 100000
set_option maxHeartbeats 1200000
/-! a text leaf of the model, told by its list of tokens -/
def lkL (σ : Sto) (l : TL) (m p t : Int) : Prop := exN (fun q => rk l.2.2.2.2.2 q = p ∧ mT σ (l.2.2.1 q) 0 (l.2.1 q) t) m
def sqL (σ : Sto) (l : TL) (m v p x : Int) : Prop := exN (fun j => σ.I 590 (σ.I 582 v + j) = x ∧ lkL σ l m p (σ.I 582 v + j)) (tcM σ v)
noncomputable def mL (l : TL) : Int := mPl l.2.2.2.2.2 l.1
noncomputable def nL (l : TL) : Int := nPl l.2.2.2.2.2 (mL l)
noncomputable def mtL (σ : Sto) (l : TL) (sl v : Int) : Int := mtc (sqL σ l (mL l) v) (pPl l.2.2.2.2.2 l.1) (nL l) sl
noncomputable def hwM (σ : Sto) (f : Int) : Int := cn (fun o => σ.I 601 o = 1 ∧ mHV σ f o) 601
noncomputable def dL (σ : Sto) (f : Int) (l : TL) (q : Int) : Int := cn (fun o => σ.I 601 o = 1 ∧ mHT σ f (l.2.2.1 q) 0 (l.2.1 q) o) 601
noncomputable def idL (σ : Sto) (f : Int) (l : TL) (q : Int) : Int := if 0 < dL σ f l q then lgR (2 * hwM σ f + 2) (2 * dL σ f l q + 1) else 0
noncomputable def mxN (P : Int → Prop) (g : Int → Int) : Nat → Int
  | 0 => 0
  | k + 1 => if zb (P (k : Int)) = 1 then max (mxN P g k) (g (k : Int)) else mxN P g k
noncomputable def mxP (P : Int → Prop) (g : Int → Int) (n : Int) : Int := mxN P g n.toNat
theorem mxP_0 {P : Int → Prop} {g : Int → Int} {n : Int} (h : n ≤ 0) : mxP P g n = 0 := by unfold mxP; rw [show n.toNat = 0 by omega]; rfl
theorem mxP_s {P : Int → Prop} {g : Int → Int} {n : Int} (h : 0 ≤ n) : mxP P g (n + 1) = if zb (P n) = 1 then max (mxP P g n) (g n) else mxP P g n := by
  unfold mxP
  rw [show (n + 1).toNat = n.toNat + 1 by omega]
  show (if zb (P ((n.toNat : Nat) : Int)) = 1 then max (mxN P g n.toNat) (g ((n.toNat : Nat) : Int)) else mxN P g n.toNat) = _
  rw [show ((n.toNat : Nat) : Int) = n by omega]
theorem mxP_in {P : Int → Prop} {g : Int → Int} {n b : Int} (hb : 0 ≤ b) (hg : ∀ k, g k ≤ b) : 0 ≤ mxP P g n ∧ mxP P g n ≤ b := by
  unfold mxP
  induction n.toNat with
  | zero => exact ⟨Int.le_refl _, hb⟩
  | succ k ih =>
    show 0 ≤ (if zb (P (k : Int)) = 1 then max (mxN P g k) (g (k : Int)) else mxN P g k) ∧ (if zb (P (k : Int)) = 1 then max (mxN P g k) (g (k : Int)) else mxN P g k) ≤ b
    have := hg (k : Int)
    split <;> omega
/-- what its places are worth -/
noncomputable def plL (σ : Sto) (f : Int) (l : TL) (p : Int) : Int := mxP (fun q => rk l.2.2.2.2.2 q = p) (idL σ f l) (mL l)
noncomputable def smL (σ : Sto) (f : Int) (l : TL) (n : Int) : Int := smP (fun _ => True) (plL σ f l) n
/-- how often an object has it, by the first m of its values -/
noncomputable def cL (σ : Sto) (f : Int) (l : TL) (sl o m : Int) : Int := smP (fun j => mV σ f (σ.I 595 o + j)) (fun j => mtL σ l sl (σ.I 595 o + j)) m
noncomputable def cLo (σ : Sto) (l : TL) (n o : Int) : Int := cL σ (σ.I 614 n) l (σ.I 617 n) o (σ.I 596 o)
noncomputable def txV (σ : Sto) (l : TL) (n o : Int) : Int := if zb (σ.I 601 o = 1 ∧ 0 < cLo σ l n o) = 1 then wgh (σ.I 555 98) (smL σ (σ.I 614 n) l (nL l)) (cLo σ l n o) (mAT σ (σ.I 614 n)) (mTO σ (σ.I 614 n) o) (hwM σ (σ.I 614 n)) else -1
theorem txV_no {σ : Sto} {l : TL} {n o : Int} (h : ¬ (σ.I 601 o = 1 ∧ 0 < cLo σ l n o)) : txV σ l n o = -1 := by unfold txV; rw [if_neg (fun z => h (zb_1.mp z))]
theorem txV_yes {σ : Sto} {l : TL} {n o : Int} (h : σ.I 601 o = 1 ∧ 0 < cLo σ l n o) : txV σ l n o = wgh (σ.I 555 98) (smL σ (σ.I 614 n) l (nL l)) (cLo σ l n o) (mAT σ (σ.I 614 n)) (mTO σ (σ.I 614 n) o) (hwM σ (σ.I 614 n)) := by unfold txV; rw [if_pos (zb_t h)]
theorem idL_in (σ : Sto) (f : Int) (l : TL) (q : Int) : 0 ≤ idL σ f l q ∧ idL σ f l q ≤ 5376 := by
  unfold idL
  have := lgR_in (2 * hwM σ f + 2) (2 * dL σ f l q + 1)
  split <;> omega
theorem plL_in (σ : Sto) (f : Int) (l : TL) (p : Int) : 0 ≤ plL σ f l p ∧ plL σ f l p ≤ 5376 := mxP_in (by omega) (fun k => (idL_in σ f l k).2)
theorem smL_s {σ : Sto} {f : Int} {l : TL} {n : Int} (h : 0 ≤ n) : smL σ f l (n + 1) = smL σ f l n + plL σ f l n := smP_t _ _ _ _ h rfl trivial
theorem smL_in {σ : Sto} {f : Int} {l : TL} {n : Int} (h : 0 ≤ n) : 0 ≤ smL σ f l n ∧ smL σ f l n ≤ 5376 * n := by
  obtain ⟨k, rfl⟩ := Int.eq_ofNat_of_zero_le h
  clear h
  induction k with
  | zero => rw [show smL σ f l ((0 : Nat) : Int) = 0 from smP_0 _ _ _ (by omega)]; omega
  | succ k ih =>
    have e := smL_s (σ := σ) (f := f) (l := l) (n := (k : Int)) (by omega)
    have := plL_in σ f l (k : Int)
    rw [show ((k + 1 : Nat) : Int) = (k : Int) + 1 by omega, e]; omega
theorem mtL_in (σ : Sto) (l : TL) (sl v : Int) : 0 ≤ mtL σ l sl v ∧ mtL σ l sl v ≤ 500 := by
  have := cn_in (fun x => sqL σ l (mL l) v 0 x ∧ mAt (sqL σ l (mL l) v) (pPl l.2.2.2.2.2 l.1) (nL l) sl x) 500
  unfold mtL mtc; omega
theorem mtL_no {σ : Sto} {l : TL} {sl v : Int} (h : tcM σ v ≤ 0) : mtL σ l sl v = 0 := by
  unfold mtL mtc
  rw [cn_ext (n := 0) (m := 500) (Int.le_refl _) (by omega) (fun k a b z => exN_0 _ _ h z.1), cn_0 _ _ (Int.le_refl _)]
theorem mtL_em {σ : Sto} {l : TL} {sl v : Int} (h : mL l ≤ 0) : mtL σ l sl v = 0 := by
  unfold mtL mtc
  rw [cn_ext (n := 0) (m := 500) (Int.le_refl _) (by omega) (fun k a b z => by obtain ⟨j, _, _, _, y⟩ := z.1; exact exN_0 _ _ h y), cn_0 _ _ (Int.le_refl _)]
theorem smP_bd {p : Int → Prop} {g : Int → Int} {b n : Int} (h : 0 ≤ n) (hg : ∀ k, 0 ≤ g k ∧ g k ≤ b) (hb : 0 ≤ b) : 0 ≤ smP p g n ∧ smP p g n ≤ b * n := by
  obtain ⟨k, rfl⟩ := Int.eq_ofNat_of_zero_le h
  clear h
  induction k with
  | zero => rw [smP_0 _ _ _ (show ((0 : Nat) : Int) ≤ 0 by omega)]; omega
  | succ k ih =>
    have e : b * ((k + 1 : Nat) : Int) = b * (k : Int) + b := by rw [show ((k + 1 : Nat) : Int) = (k : Int) + 1 by omega, Int.mul_add, Int.mul_one]
    have q := hg (k : Int)
    rw [e]
    rcases Classical.em (p (k : Int)) with z | z
    · rw [smP_t p g (k : Int) ((k + 1 : Nat) : Int) (by omega) (by omega) z]; omega
    · rw [smP_f p g (k : Int) ((k + 1 : Nat) : Int) (by omega) (by omega) z]; omega
theorem smP_z {p : Int → Prop} {g : Int → Int} {n : Int} (h : 0 ≤ n) (hg : ∀ k, 0 ≤ k → k < n → p k → g k = 0) : smP p g n = 0 := by
  obtain ⟨k, rfl⟩ := Int.eq_ofNat_of_zero_le h
  clear h
  induction k with
  | zero => exact smP_0 _ _ _ (by omega)
  | succ k ih =>
    have i2 := ih (fun j a b => hg j a (by omega))
    rcases Classical.em (p (k : Int)) with z | z
    · rw [smP_t p g (k : Int) ((k + 1 : Nat) : Int) (by omega) (by omega) z, i2, hg _ (by omega) (by omega) z]; rfl
    · rw [smP_f p g (k : Int) ((k + 1 : Nat) : Int) (by omega) (by omega) z]; exact i2
theorem cL_in {σ : Sto} {f : Int} {l : TL} {sl o m : Int} (h : 0 ≤ m) : 0 ≤ cL σ f l sl o m ∧ cL σ f l sl o m ≤ 500 * m := smP_bd h (fun k => mtL_in σ l sl _) (by omega)
theorem cL_em {σ : Sto} {f : Int} {l : TL} {sl o m : Int} (h : mL l ≤ 0) (hm : 0 ≤ m) : cL σ f l sl o m = 0 := smP_z hm (fun k _ _ _ => mtL_em h)
theorem smP_l2 {p : Int → Prop} {g g' : Int → Int} {n : Int} (h : 0 ≤ n) (hg : ∀ k, 0 ≤ k → k < n → p k → 0 ≤ g k ∧ (0 < g k → 0 < g' k)) (hg2 : ∀ k, 0 ≤ k → k < n → p k → 0 ≤ g' k) : 0 ≤ smP p g n ∧ 0 ≤ smP p g' n ∧ (0 < smP p g n → 0 < smP p g' n) := by
  obtain ⟨k, rfl⟩ := Int.eq_ofNat_of_zero_le h
  clear h
  induction k with
  | zero => rw [smP_0 _ _ _ (show ((0 : Nat) : Int) ≤ 0 by omega), smP_0 _ _ _ (show ((0 : Nat) : Int) ≤ 0 by omega)]; omega
  | succ k ih =>
    obtain ⟨i1, i2, i3⟩ := ih (fun j a b => hg j a (by omega)) (fun j a b => hg2 j a (by omega))
    rcases Classical.em (p (k : Int)) with z | z
    · have q1 := hg (k : Int) (by omega) (by omega) z
      have q2 := hg2 (k : Int) (by omega) (by omega) z
      rw [smP_t p g (k : Int) ((k + 1 : Nat) : Int) (by omega) (by omega) z, smP_t p g' (k : Int) ((k + 1 : Nat) : Int) (by omega) (by omega) z]
      refine ⟨by omega, by omega, fun y => ?_⟩
      rcases (show 0 < smP p g (k : Int) ∨ 0 < g (k : Int) by omega) with w | w
      · have := i3 w; omega
      · have := q1.2 w; omega
    · rw [smP_f p g (k : Int) ((k + 1 : Nat) : Int) (by omega) (by omega) z, smP_f p g' (k : Int) ((k + 1 : Nat) : Int) (by omega) (by omega) z]; exact ⟨i1, i2, i3⟩
/-- where an object has it, the field has tokens -/
theorem cL_tk {σ : Sto} {l : TL} {n o : Int} (hO : OB σ 595 596) (hv : VT σ (σ.I 555 30)) (hW : WOB σ) (h0 : 0 ≤ o) (h1 : o < 601) (hi : σ.I 601 o = 1) (hc : 0 < cLo σ l n o) : 1 ≤ mAT σ (σ.I 614 n) ∧ mAT σ (σ.I 614 n) ≤ 3606000 := by
  have ob := hO o h0 h1
  have wo := hW o h0 h1 hi
  have t1 : 0 < mTO σ (σ.I 614 n) o := (smP_l2 (p := fun j => mV σ (σ.I 614 n) (σ.I 595 o + j)) (g := fun j => mtL σ l (σ.I 617 n) (σ.I 595 o + j)) (g' := fun j => tcM σ (σ.I 595 o + j)) ob.2.1
    (fun k a b _ => ⟨(mtL_in _ _ _ _).1, fun z => by rcases Int.lt_or_le 0 (tcM σ (σ.I 595 o + k)) with y | y; (exact y); (have e : mtL σ l (σ.I 617 n) (σ.I 595 o + k) = 0 := mtL_no y; omega)⟩) (fun k a b _ => (hv (σ.I 595 o + k) (by omega) (by omega)).1)).2.2 hc
  have key : ∀ m : Nat, (m : Int) ≤ 601 → 0 ≤ smP (fun o => σ.I 601 o = 1) (fun o => mTO σ (σ.I 614 n) o) (m : Int) ∧ smP (fun o => σ.I 601 o = 1) (fun o => mTO σ (σ.I 614 n) o) (m : Int) ≤ 6000 * m ∧ (o < m → 0 < smP (fun o => σ.I 601 o = 1) (fun o => mTO σ (σ.I 614 n) o) (m : Int)) := by
    intro m
    induction m with
    | zero => intro _; rw [smP_0 _ _ _ (show ((0 : Nat) : Int) ≤ 0 by omega)]; omega
    | succ m ih =>
      intro hm
      obtain ⟨i1, i2, i3⟩ := ih (by omega)
      rcases Classical.em (σ.I 601 (m : Int) = 1) with z | z
      · have q := mTO_in σ (σ.I 614 n) (m : Int) hO hv (by omega) (by omega) (hW _ (by omega) (by omega) z)
        rw [smP_t (fun o => σ.I 601 o = 1) (fun o => mTO σ (σ.I 614 n) o) (m : Int) ((m + 1 : Nat) : Int) (by omega) (by omega) z]
        refine ⟨by omega, by omega, fun y => ?_⟩
        rcases (show o < m ∨ (m : Int) = o by omega) with w | w
        · have := i3 w; omega
        · rw [w] at q ⊢
          have : mTO σ (σ.I 614 n) o = (fun o => mTO σ (σ.I 614 n) o) o := rfl
          rw [w] at i1; omega
      · rw [smP_f (fun o => σ.I 601 o = 1) (fun o => mTO σ (σ.I 614 n) o) (m : Int) ((m + 1 : Nat) : Int) (by omega) (by omega) z]
        refine ⟨i1, by omega, fun y => i3 ?_⟩
        rcases (show o < m ∨ (m : Int) = o by omega) with w | w
        · exact w
        · rw [w] at z; contradiction
  have q := key 601 (by omega)
  have q2 := q.2.2 (by omega)
  have e : mAT σ (σ.I 614 n) = smP (fun o => σ.I 601 o = 1) (fun o => mTO σ (σ.I 614 n) o) ((601 : Nat) : Int) := rfl
  rw [e]; omega
theorem mtc_cg {S S' : Int → Int → Prop} {PP PP' : Int → Int} {pl sl : Int} (hS : ∀ p y, 0 ≤ p → p < pl → (S p y ↔ S' p y)) (hP : ∀ p, 1 ≤ p → p < pl → PP p = PP' p) (h1 : 1 ≤ pl) : mtc S PP pl sl = mtc S' PP' pl sl := by
  have hf : ∀ w x, fw S PP pl w sl x = fw S' PP' pl w sl x := by
    intro w x
    unfold fw
    refine fwN_cg (x0 := x) (P := fun p => 1 ≤ p ∧ p < pl) (Y := fun _ => True) (fun _ _ _ _ => trivial) (fun p y h => hS p y (by omega) h.2) (fun p h => hP p h.1 h.2) _ _ (t0 x) (fun _ => 0) (t0 x) (fun _ => 0) (fun q a b => ⟨a, by omega⟩) (if_pos rfl) ⟨if_pos rfl, fun z _ => ⟨rfl, fun _ => rfl, fun h => ?_⟩⟩
    unfold t0 at h
    split at h <;> omega
  unfold mtc
  congr 1
  funext x
  refine propext (and_congr (hS 0 x (Int.le_refl _) (by omega)) ?_)
  unfold mAt
  constructor
  · rintro ⟨w, a, b, c⟩; exact ⟨w, a, b, (hf w x).symm.trans c⟩
  · rintro ⟨w, a, b, c⟩; exact ⟨w, a, b, (hf w x).trans c⟩
/-- what is taken of a leaf lies in the pool -/
def PLX (σ τ : Sto) (n : Int) (l : TL) : Prop := (τ.I 631 n = σ.I 555 105 ∧ τ.I 632 n = σ.I 555 105 + mL l ∧ τ.I 555 105 = σ.I 555 105 + mL l) ∧ (τ.I 555 108 = nL l ∧ 0 ≤ nL l ∧ nL l ≤ 16 ∧ 0 ≤ mL l ∧ mL l ≤ l.1 ∧ 0 ≤ σ.I 555 105 ∧ σ.I 555 105 + l.1 ≤ 6000) ∧ PLN τ (σ.I 555 105) l (mL l) ∧ PPN τ 633 0 l (nL l) ∧ PPN τ 648 (16 * n) l (nL l) ∧ bd_0_15 τ 630 6000 ∧ bd_0_20 τ 629 6000 ∧ bd_0_500 τ 633 16 ∧ bd_0_20 τ 573 300
def wsTx (x k : Int) (c : Nat) (i : Int) : Prop := wsPl x k c i ∨ wsW c i ∨ wsRw x c i ∨ (c = 623 ∧ 601 * x ≤ i ∧ i < 601 * x + 601)
abbrev KTx (x k : Int) (σ τ : Sto) : Prop := Ch (wsTx x k) σ τ
theorem KTx_rf {x k : Int} {σ : Sto} : KTx x k σ σ := Ch.rf
theorem KTx_of_KPl {x k : Int} {σ τ : Sto} (h : KPl x k σ τ) : KTx x k σ τ := Ch.mono h (fun c i q => Or.inl q)
theorem KTx_of_KW {x k : Int} {σ τ : Sto} (h : KW σ τ) : KTx x k σ τ := Ch.mono h (fun c i q => Or.inr (Or.inl q))
theorem KTx_of_KRw {x k : Int} {σ τ : Sto} (h : KRw x σ τ) : KTx x k σ τ := Ch.mono h (fun c i q => Or.inr (Or.inr (Or.inl q)))
theorem KTx_w {x k : Int} {σ τ : Sto} {a : Nat} {i v : Int} (e : τ = σ.wI a i v) (h : wsTx x k a i) : KTx x k σ τ := by subst e; exact Ch.wI Ch.rf h
theorem KM_of_KTx {x k : Int} {σ τ : Sto} (h : KTx x k σ τ) : KM σ τ := Ch.mono h (fun c i q => by unfold wsTx wsPl wsB wsW wsRw at2 at q; unfold wsM; omega)
theorem PLX_fr {σ τ υ : Sto} {n : Int} {l : TL} (h : PLX σ τ n l) (e : ∀ c i, ¬ (621 ≤ c ∧ c ≤ 623) → ¬ (634 ≤ c ∧ c ≤ 636) → (c = 555 → i ≠ 113) → υ.I c i = τ.I c i) : PLX σ υ n l := by
  obtain ⟨⟨a1, a2, a3⟩, ⟨b1, b2⟩, c1, c2, c3, d1, d2, d3, d4⟩ := h
  have k : ∀ c, ¬ (621 ≤ c ∧ c ≤ 623) → ¬ (634 ≤ c ∧ c ≤ 636) → c ≠ 555 → υ.I c = τ.I c := fun c x y z => funext fun i => e c i x y (fun w => absurd w z)
  refine ⟨⟨by rw [k _ (by omega) (by omega) (by omega)]; exact a1, by rw [k _ (by omega) (by omega) (by omega)]; exact a2, by rw [e _ _ (by omega) (by omega) (by omega)]; exact a3⟩, ⟨by rw [e _ _ (by omega) (by omega) (by omega)]; exact b1, b2⟩, fun j x y => ?_, fun j x y => ?_, fun j x y => ?_, bd_0_15_eq d1 (k _ (by omega) (by omega) (by omega)), bd_0_20_eq d2 (k _ (by omega) (by omega) (by omega)), bd_0_500_eq d3 (k _ (by omega) (by omega) (by omega)), bd_0_20_eq d4 (k _ (by omega) (by omega) (by omega))⟩
  · obtain ⟨z1, z2, z3⟩ := c1 j x y
    exact ⟨by rw [k _ (by omega) (by omega) (by omega)]; exact z1, by rw [k _ (by omega) (by omega) (by omega)]; exact z2, fun i u v => by rw [k _ (by omega) (by omega) (by omega)]; exact z3 i u v⟩
  · rw [k _ (by omega) (by omega) (by omega)]; exact c2 j x y
  · rw [k _ (by omega) (by omega) (by omega)]; exact c3 j x y
theorem PLX_mT {σ τ : Sto} {n : Int} {l : TL} (h : PLX σ τ n l) {k : Int} (hk : KTx n k σ τ) {q t : Int} (h0 : 0 ≤ q) (h1 : q < mL l) : mT τ (τ.I 628) (20 * (σ.I 555 105 + q)) (τ.I 629 (σ.I 555 105 + q)) t ↔ mT σ (l.2.2.1 q) 0 (l.2.1 q) t := by
  obtain ⟨z1, z2, z3⟩ := h.2.2.1 q h0 h1
  have K := KM_of_KTx hk
  unfold mT
  rw [km_587 K, km_586 K, z1]
  refine and_congr_right (fun _ => ?_)
  constructor
  · intro w j j0 j1
    have y : σ.I 586 (20 * t + j) = τ.I 628 (20 * (σ.I 555 105 + q) + j) := w j j0 j1
    have x := z3 j j0 j1
    show σ.I 586 (20 * t + j) = l.2.2.1 q (0 + j)
    rw [Int.zero_add]; exact y.trans x
  · intro w j j0 j1
    have y : σ.I 586 (20 * t + j) = l.2.2.1 q (0 + j) := w j j0 j1
    rw [Int.zero_add] at y
    have x := z3 j j0 j1
    show σ.I 586 (20 * t + j) = τ.I 628 (20 * (σ.I 555 105 + q) + j)
    exact y.trans x.symm
theorem PLX_lk {σ τ : Sto} {n : Int} {l : TL} (h : PLX σ τ n l) {k : Int} (hk : KTx n k σ τ) {p t : Int} : lkQ τ n (τ.I 632 n) p t ↔ lkL σ l (mL l) p t := by
  unfold lkQ lkL
  rw [h.1.1, h.1.2.1]
  constructor
  · rintro ⟨q, q0, q1, q2, q3⟩
    have e : q = σ.I 555 105 + (q - σ.I 555 105) := by omega
    obtain ⟨z1, z2, z3⟩ := h.2.2.1 (q - σ.I 555 105) (by omega) (by omega)
    rw [e] at q2 q3
    exact ⟨q - σ.I 555 105, by omega, by omega, z2.symm.trans q2, (PLX_mT h hk (by omega) (by omega)).mp q3⟩
  · rintro ⟨q, q0, q1, q2, q3⟩
    obtain ⟨z1, z2, z3⟩ := h.2.2.1 q q0 q1
    exact ⟨σ.I 555 105 + q, by omega, by omega, z2.trans q2, (PLX_mT h hk q0 q1).mpr q3⟩
theorem PLX_mt {σ τ : Sto} {n v : Int} {l : TL} (h : PLX σ τ n l) {k : Int} (hk : KTx n k σ τ) (h1 : 1 ≤ nL l) : mtc (stQ τ n v) (τ.I 633) (τ.I 555 108) (τ.I 617 n) = mtL σ l (σ.I 617 n) v := by
  have K := KM_of_KTx hk
  rw [h.2.1.1, km_617 K]
  unfold mtL
  refine mtc_cg (fun p y a b => ?_) (fun p a b => ?_) h1
  · unfold stQ stP sqL
    rw [tcM_k K, km_582 K, km_590 K]
    constructor
    · rintro ⟨j, j0, j1, j2, j3⟩; exact ⟨j, j0, j1, j2, (PLX_lk h hk).mp j3⟩
    · rintro ⟨j, j0, j1, j2, j3⟩; exact ⟨j, j0, j1, j2, (PLX_lk h hk).mpr j3⟩
  · have q := h.2.2.2.1 p (by omega) b
    rw [Int.zero_add] at q; exact q
theorem PLX_d {σ τ : Sto} {n f : Int} {l : TL} (h : PLX σ τ n l) {k : Int} (hk : KTx n k σ τ) {q : Int} (h0 : 0 ≤ q) (h1 : q < mL l) : cn (fun o => τ.I 601 o = 1 ∧ mHT τ f (τ.I 628) (20 * (σ.I 555 105 + q)) (τ.I 629 (σ.I 555 105 + q)) o) 601 = dL σ f l q := by
  have K := KM_of_KTx hk
  unfold dL
  congr 1
  funext o
  rw [km_601 K]
  refine propext (and_congr_right (fun _ => ?_))
  unfold mHT mVT mV
  rw [km_595 K, km_596 K, km_579 K, km_602 K, tcM_k K, km_582 K]
  constructor
  · rintro ⟨j, j0, j1, j2, t, t0, t1, t2⟩; exact ⟨j, j0, j1, j2, t, t0, t1, (PLX_mT h hk h0 h1).mp t2⟩
  · rintro ⟨j, j0, j1, j2, t, t0, t1, t2⟩; exact ⟨j, j0, j1, j2, t, t0, t1, (PLX_mT h hk h0 h1).mpr t2⟩
/-- how often, object by object -/
def CSR (σ τ : Sto) (x n : Int) (V C : Int → Int) : Prop := ∀ o, 0 ≤ o → o < 601 → τ.I 623 (601 * x + o) = if o < n ∧ 0 ≤ V o then C o else σ.I 623 (601 * x + o)

theorem sp_X9_root {E : XE} {d : Nat} {σ : Sto} {y0 : Int} (hd : 20 ≤ d) (hL : Lay σ)  (p0 : 0 ≤ y0 ∧ y0 ≤ 1000000) : CC E mX9_root d [aL (y0)] σ (RL σ (rt y0 0)) := by sorry
theorem sp_X9_scoreOf {E : XE} {d : Nat} {σ : Sto} {y1 : Int} {y3 : Int} {y5 : Int} {y7 : Int} {y9 : Int} (hd : 21 ≤ d) (hL : Lay σ)  (p0 : 0 ≤ y1 ∧ y1 ≤ 100000) (p1 : 1 ≤ y3 ∧ y3 ≤ 12000) (p2 : 1 ≤ y5 ∧ y5 ≤ 3700000) (p3 : 0 ≤ y7 ∧ y7 ≤ 6000) (p4 : 0 ≤ y9 ∧ y9 ≤ 601) : CC E mX9_scoreOf d [aO 555, aL (y1), aL (y3), aL (y5), aL (y7), aL (y9)] σ (RL σ (wgh (σ.I 555 98) y1 y3 y5 y7 y9)) := by sorry
theorem wgh_bd {f s c t l n : Int} (hs : 0 ≤ s ∧ s ≤ 100000) (hc : 1 ≤ c ∧ c ≤ 12000) (ht : 1 ≤ t ∧ t ≤ 3700000) (hl : 0 ≤ l ∧ l ≤ 6000) (hn : 0 ≤ n ∧ n ≤ 601) : 0 ≤ wgh f s c t l n ∧ wgh f s c t l n ≤ 140800000 := by
  have hw := wgh_in (s := s) (c := c) (t := t) (l := l) (n := n) hs hc ht hl hn
  have hr := rt_in (64 * c)
  have hm := mul_in (a := s) (b := rt (64 * c) 0) (x := 100000) (y := 1001) hs.1 hs.2 hr.1 hr.2
  unfold wgh
  split
  · omega
  · split
    · omega
    · have e : td (1408 * s * c * t) (10 * c * t + 3 * t + 9 * l * n) = (1408 * s * c * t).tdiv (10 * c * t + 3 * t + 9 * l * n) := rfl
      rw [e, Int.tdiv_eq_ediv_of_nonneg hw.1.1]
      refine ⟨Int.ediv_nonneg hw.1.1 (by omega), ?_⟩
      have hct : 0 ≤ c * t := Int.mul_nonneg (by omega) (by omega)
      have h1 : 1408 * s * c * t = (1408 * s) * (c * t) := Int.mul_assoc _ _ _
      have h2 : (1408 * s) * (c * t) ≤ 140800000 * (c * t) := Int.mul_le_mul_of_nonneg_right (by omega) hct
      have h3 : 10 * c * t = 10 * (c * t) := Int.mul_assoc _ _ _
      refine Int.ediv_le_of_le_mul (by omega) ?_
      have h4 : 140800000 * (c * t) ≤ 140800000 * (10 * c * t + 3 * t + 9 * l * n) := Int.mul_le_mul_of_nonneg_left (by omega) (by omega)
      omega
theorem mTO_k {σ τ : Sto} (h : KM σ τ) : mTO τ = mTO σ := by funext f o; unfold mTO; rw [mV_k h, tcM_k h, km_595 h, km_596 h]
theorem mAT_k {σ τ : Sto} (h : KM σ τ) : mAT τ = mAT σ := by funext f; unfold mAT; rw [mTO_k h, km_601 h]
theorem hwM_k {σ τ : Sto} (h : KM σ τ) : hwM τ = hwM σ := by funext f; unfold hwM; rw [mHV_k h, km_601 h]
theorem dL_le (σ : Sto) (f : Int) (l : TL) (q : Int) : 0 ≤ dL σ f l q ∧ dL σ f l q ≤ hwM σ f ∧ hwM σ f ≤ 601 := by
  have h1 := cn_in (fun o => σ.I 601 o = 1 ∧ mHT σ f (l.2.2.1 q) 0 (l.2.1 q) o) 601
  have h2 := cn_in (fun o => σ.I 601 o = 1 ∧ mHV σ f o) 601
  have h3 : cn (fun o => σ.I 601 o = 1 ∧ mHT σ f (l.2.2.1 q) 0 (l.2.1 q) o) ((601 : Nat) : Int) ≤ cn (fun o => σ.I 601 o = 1 ∧ mHV σ f o) ((601 : Nat) : Int) := cn_imp (fun o z => ⟨z.1, mHT_HV z.2⟩) 601
  have h4 : ((601 : Nat) : Int) = 601 := rfl
  rw [h4] at h3
  unfold dL hwM
  omega
theorem hwM_in (σ : Sto) (f : Int) : 0 ≤ hwM σ f ∧ hwM σ f ≤ 601 := by
  have h2 := cn_in (fun o => σ.I 601 o = 1 ∧ mHV σ f o) 601
  unfold hwM; omega
theorem CSR_0 {σ τ : Sto} {x : Int} {V C : Int → Int} (h : ∀ i, τ.I 623 i = σ.I 623 i) : CSR σ τ x 0 V C := fun o a b => by rw [if_neg (by omega), h]
theorem CSR_all {σ τ : Sto} {x n : Int} {V C : Int → Int} (h : ∀ i, τ.I 623 i = σ.I 623 i) (hv : ∀ o, 0 ≤ o → o < 601 → V o < 0) : CSR σ τ x n V C := fun o a b => by rw [if_neg (fun z => by have := hv o a b; omega), h]
theorem CSR_skip {σ τ : Sto} {x n : Int} {V C : Int → Int} (h : CSR σ τ x n V C) (hv : V n < 0) : CSR σ τ x (n + 1) V C := fun o a b => by
  rw [h o a b]
  by_cases z : o < n ∧ 0 ≤ V o
  · rw [if_pos z, if_pos ⟨by omega, z.2⟩]
  · rw [if_neg z, if_neg (fun y => z ⟨by rcases (show o < n ∨ o = n by omega) with w | w; (exact w); (rw [w] at y; omega), y.2⟩)]
theorem CSR_set {σ τ υ : Sto} {x n : Int} {V C : Int → Int} (h : CSR σ τ x n V C) (hv : 0 ≤ V n) (e : ∀ o, υ.I 623 (601 * x + o) = if o = n then C n else τ.I 623 (601 * x + o)) : CSR σ υ x (n + 1) V C := fun o a b => by
  rw [e]
  by_cases z : o = n
  · rw [if_pos z, if_pos ⟨by omega, by rw [z]; exact hv⟩, z]
  · rw [if_neg z, h o a b]
    by_cases w : o < n ∧ 0 ≤ V o
    · rw [if_pos w, if_pos ⟨by omega, w.2⟩]
    · rw [if_neg w, if_neg (fun y => w ⟨by omega, y.2⟩)]
theorem CSR_fr {σ τ υ : Sto} {x n : Int} {V C : Int → Int} (h : CSR σ τ x n V C) (e : ∀ i, υ.I 623 i = τ.I 623 i) : CSR σ υ x n V C := fun o a b => by rw [e]; exact h o a b
theorem ROW_em {σ : Sto} {x : Int} {V : Int → Int} (h : CLR σ x) (hv : ∀ o, 0 ≤ o → o < 601 → V o < 0) : ROW σ x 601 V := ⟨fun o a b => by have := hv o a b; rw [if_neg (by omega), if_neg (by omega)]; exact h o a b, fun o a b => by omega⟩
theorem CLR_fr {σ τ : Sto} {x : Int} (h : CLR σ x) (e : ∀ c i, c = 621 ∨ c = 622 → τ.I c i = σ.I c i) : CLR τ x := fun o a b => by rw [e _ _ (Or.inl rfl), e _ _ (Or.inr rfl)]; exact h o a b
theorem txV_em {σ : Sto} {l : TL} {n o : Int} (hO : OB σ 595 596) (h0 : 0 ≤ o) (h1 : o < 601) (hm : mL l ≤ 0) : txV σ l n o < 0 := by
  rw [txV_no (fun z => by have e : cLo σ l n o = 0 := cL_em hm (hO o h0 h1).2.1; have := z.2; omega)]; decide
theorem nL_pos {l : TL} (h : nL l ≤ 0) : mL l ≤ 0 := by
  have := nPl_b (p := l.2.2.2.2.2) (n := mL l)
  have e : nL l = nPl l.2.2.2.2.2 (mL l) := rfl
  rcases Int.lt_or_le 0 (mL l) with z | z
  · have := this.2.1 z; omega
  · exact z

theorem sp_X9_workText {E : XE} {d : Nat} {σ : Sto} {l : TL} {x1 : Int} (hd : 507 ≤ d) (hL : Lay σ)  (p0 : 0 ≤ x1 ∧ x1 < σ.I 555 80) (p1 : σ.I 555 80 ≤ 130) (p2 : SRC σ) (p3 : TN σ x1) (p4 : σ.I 609 x1 = 7) (p5 : 0 ≤ (σ.I 555 105) ∧ (σ.I 555 105) + l.1 ≤ 6000) (p6 : AC σ) (p7 : ARW σ (σ.I 578 (σ.I 614 x1))) (p8 : bd_0_20 σ 573 300) (p9 : l = (tk σ (σ.I 578 (σ.I 614 x1)) (σ.I (src σ)) (σ.I 555 75 + σ.I 615 x1) (σ.I 555 75 + σ.I 616 x1) (σ.I 555 75 + σ.I 615 x1) 0 tl0)) (p10 : bd_0_15 σ 630 6000) (p11 : bd_0_20 σ 629 6000) (p12 : bd_0_500 σ 633 16) (p13 : CLR σ x1) (p14 : bd_0_1 σ 601 601) (p15 : OB σ 595 596) (p16 : VT σ (σ.I 555 30)) (p17 : σ.I 555 30 ≤ 6000) (p18 : WOB σ) (p19 : bd_0_20 σ 587 24000) (p20 : bd_0_499 σ 590 24000) (p21 : bd_m1_15 σ 635 1024) : CC E mX9_workText d [aO 555, aI (x1)] σ (RV (fun τ => (ROW τ x1 601 (txV σ l x1)) ∧ (CSR σ τ x1 601 (txV σ l x1) (cLo σ l x1)) ∧ (PLX σ τ x1 l) ∧ (bd_m1_15 τ 635 1024) ∧ (KTx x1 (σ.I 555 105) σ τ))) := by sorry
end
section
/-! contracts: printed by tools/mk.py out of s98f_wrkM.py -/
set_option maxRecDepth 100000
set_option maxHeartbeats 1200000
/-! nodes, one after the other -/
def TM (σ : Sto) (c : Nat) (i : Int) : Int := if c = 0 then σ.I 609 i else if c = 1 then σ.I 610 i else if c = 2 then σ.I 611 i else if c = 3 then σ.I 612 i else if c = 4 then σ.I 613 i else σ.I 615 i
def WM (σ : Sto) (o : Int) : Prop := σ.I 601 o = 1
noncomputable def LfM (σ : Sto) (lf : Int → TL) (n o : Int) : Int := if σ.I 609 n = 7 then txV σ (lf n) n o else if σ.I 609 n = 8 then vaV σ n o else if zb (hlM σ n o) = 1 then 64 else -1
noncomputable def vM (σ : Sto) (lf : Int → TL) (V : Int → Int → Int) (n o : Int) : Int := vB (TM σ) (WM σ) (σ.I 591) 600 (LfM σ lf) V n o
theorem TP_t {σ : Sto} {pa : Int → Int} (h : TP σ pa) : TPt (TM σ) (σ.I 555 80) pa := h
theorem rs_pi {S R : Type} {d : R} {st : S → S ⊕ R} {I : S → Prop} {P : R → Prop} (h1 : ∀ s s', I s → st s = .inl s' → I s') (h2 : ∀ s r, I s → st s = .inr r → P r) (hd : P d) {s : S} (hs : I s) : P (rs d st s) := by
  have key : ∀ (k : Nat) (s : S), I s → ∀ r, itN st k s = some r → P r := by
    intro k
    induction k with
    | zero => intro s _ r e; cases e
    | succ k ih =>
      intro s hs r e
      cases hq : st s with
      | inl s' => rw [itN_l hq] at e; exact ih s' (h1 s s' hs hq) r e
      | inr r' => rw [itN_r hq] at e; cases e; exact h2 s r hs hq
  by_cases he : ∃ r, ∃ k, itN st k s = some r
  · have hh : ∃ k, itN st k s = some (rs d st s) := by
      unfold rs pickR
      rw [dif_pos he]
      exact Classical.choose_spec he
    obtain ⟨k, hk⟩ := hh
    exact key k s hs _ hk
  · unfold rs pickR
    rw [dif_neg he]; exact hd
section MBB
variable {σ τ : Sto} {W W' : Int → Int → Int} {n o nc : Int} {pa : Int → Int}
theorem alS_n {s s' : Int × Int} (e : alS σ W o s = .inl s') : 0 ≤ s.1 ∧ s'.1 = σ.I 611 s.1 := by
  unfold alS at e
  split at e
  · cases e
  · split at e
    · cases e
    · split at e <;> (cases e; exact ⟨by omega, rfl⟩)
theorem smS_n {s s' : Int × Int × Int × Int} (e : smS σ W n o s = .inl s') : 0 ≤ s.1 ∧ s'.1 = σ.I 611 s.1 := by
  unfold smS at e
  split at e
  · cases e
  · split at e <;> (cases e; exact ⟨by omega, rfl⟩)
theorem mbV_cg (hT : TP σ pa) (h0 : 0 ≤ n) (hn : n < σ.I 555 80) (c0 : τ.I 609 = σ.I 609) (c1 : τ.I 610 = σ.I 610) (c2 : τ.I 611 = σ.I 611) (c3 : τ.I 612 = σ.I 612) (c4 : τ.I 613 = σ.I 613) (c6 : τ.I 615 = σ.I 615) (hW : ∀ m, 0 ≤ m → m < n → W' m o = W m o) : mbV τ W' n o = mbV σ W n o := by
  have hm : MBt n pa (σ.I 610 n) := (hT n h0 hn).1
  have nx : ∀ m, MBt n pa m → 0 ≤ m → MBt n pa (σ.I 611 m) := fun m a b => MBt_n (TP_t hT) hn a b
  have lt : ∀ m, MBt n pa m → 0 ≤ m → m < n := fun m a b => a.elim (fun z => by omega) (fun z => z.2.1)
  have hs : ∀ m, MBt n pa m → 0 ≤ m → scW τ W' m o = scW σ W m o := fun m a b => by unfold scW; rw [hW m b (lt m a b), c4]
  unfold mbV
  rw [c0, c1]
  have e1 : alV τ W' o (σ.I 610 n) 0 = alV σ W o (σ.I 610 n) 0 := by
    unfold alV
    refine rs_cg (I := fun s => MBt n pa s.1) (fun s s' a e => ?_) (fun s a => ?_) hm
    · have q := alS_n e; rw [q.2]; exact nx _ a q.1
    · unfold alS
      by_cases z : s.1 < 0
      · rw [if_pos z, if_pos z]
      · rw [if_neg z, if_neg z, hW s.1 (by omega) (lt _ a (by omega)), hs s.1 a (by omega), c2, c3]
  have e2 : smV τ W' n o (σ.I 610 n) 0 0 0 = smV σ W n o (σ.I 610 n) 0 0 0 := by
    unfold smV
    refine rs_cg (I := fun s => MBt n pa s.1) (fun s s' a e => ?_) (fun s a => ?_) hm
    · have q := smS_n e; rw [q.2]; exact nx _ a q.1
    · unfold smS
      by_cases z : s.1 < 0
      · rw [if_pos z, if_pos z, c0, c6]
      · rw [if_neg z, if_neg z, hW s.1 (by omega) (lt _ a (by omega)), hs s.1 a (by omega), c2]
  rw [e1, e2]
theorem scW_in (hT : TW σ) {m : Int} (h0 : 0 ≤ m) (h1 : m < σ.I 555 80) : scW σ W m o = -1 ∨ (0 ≤ W m o ∧ 0 ≤ scW σ W m o ∧ scW σ W m o ≤ 1000000000000000) := by
  unfold scW
  by_cases z : W m o < 0
  · rw [if_pos z]; exact Or.inl rfl
  · rw [if_neg z]
    have q := prd_in (t := σ.I 613 m) (s := W m o) (hT m h0 h1).2.2.2.1.1 (by omega)
    exact Or.inr ⟨by omega, q.1, q.2.1⟩
theorem mbV_in (hT : TP σ pa) (hW : TW σ) (h0 : 0 ≤ n) (hn : n < σ.I 555 80) : mbV σ W n o = -1 ∨ (0 ≤ mbV σ W n o ∧ mbV σ W n o ≤ 1000000000000000) := by
  have hm : MBt n pa (σ.I 610 n) := (hT n h0 hn).1
  have nx : ∀ m, MBt n pa m → 0 ≤ m → MBt n pa (σ.I 611 m) := fun m a b => MBt_n (TP_t hT) hn a b
  have lt : ∀ m, MBt n pa m → 0 ≤ m → m < n := fun m a b => a.elim (fun z => by omega) (fun z => z.2.1)
  unfold mbV
  split
  · unfold alV
    refine rs_pi (P := fun r => r = -1 ∨ (0 ≤ r ∧ r ≤ 1000000000000000)) (I := fun s => MBt n pa s.1 ∧ 0 ≤ s.2 ∧ s.2 ≤ 1000000000000000) (fun s s' a e => ?_) (fun s r a e => ?_) (Or.inl rfl) ⟨hm, Int.le_refl _, by show (0 : Int) ≤ _; omega⟩
    · have q := alS_n e
      refine ⟨by rw [q.2]; exact nx _ a.1 q.1, ?_⟩
      have w := scW_in (W := W) (o := o) hW q.1 (by have := lt _ a.1 q.1; omega)
      unfold alS at e
      rw [if_neg (by omega)] at e
      split at e
      · cases e
      · split at e
        · cases e; exact a.2
        · rename_i y1 y2
          cases e
          have y3 : scW σ W s.1 o ≠ -1 ∨ W s.1 o < 0 := by
            rcases w with w | w
            · unfold scW at w; rw [if_neg y2] at w
              have q := prd_in (t := σ.I 613 s.1) (s := W s.1 o) (hW s.1 q.1 (by have := lt _ a.1 q.1; omega)).2.2.2.1.1 (by omega)
              omega
            · left; omega
          show 0 ≤ min 1000000000000000 (s.2 + scW σ W s.1 o) ∧ min 1000000000000000 (s.2 + scW σ W s.1 o) ≤ _
          omega
    · unfold alS at e
      split at e
      · cases e; exact Or.inr a.2
      · split at e
        · cases e; exact Or.inl rfl
        · split at e <;> cases e
  · unfold smV
    refine rs_pi (P := fun r => r = -1 ∨ (0 ≤ r ∧ r ≤ 1000000000000000)) (I := fun s => MBt n pa s.1 ∧ (0 ≤ s.2.2.1 ∧ s.2.2.1 ≤ 1000000000000000) ∧ 0 ≤ s.2.2.2 ∧ s.2.2.2 ≤ 1000000000000000) (fun s s' a e => ?_) (fun s r a e => ?_) (Or.inl rfl) ⟨hm, ⟨Int.le_refl _, by show (0 : Int) ≤ _; omega⟩, Int.le_refl _, by show (0 : Int) ≤ _; omega⟩
    · have q := smS_n e
      refine ⟨by rw [q.2]; exact nx _ a.1 q.1, ?_⟩
      have hlt := lt _ a.1 q.1
      unfold smS at e
      rw [if_neg (by omega)] at e
      split at e
      · cases e; exact a.2
      · rename_i y2
        cases e
        have y3 : 0 ≤ scW σ W s.1 o ∧ scW σ W s.1 o ≤ 1000000000000000 := by
          have q := prd_in (t := σ.I 613 s.1) (s := W s.1 o) (hW s.1 q.1 (by omega)).2.2.2.1.1 (by omega)
          unfold scW; rw [if_neg y2]; exact ⟨q.1, q.2.1⟩
        have a2 := a.2
        show (0 ≤ min 1000000000000000 (s.2.2.1 + scW σ W s.1 o) ∧ min 1000000000000000 (s.2.2.1 + scW σ W s.1 o) ≤ _) ∧ 0 ≤ (if s.2.1 = 0 ∨ s.2.2.2 < scW σ W s.1 o then scW σ W s.1 o else s.2.2.2) ∧ (if s.2.1 = 0 ∨ s.2.2.2 < scW σ W s.1 o then scW σ W s.1 o else s.2.2.2) ≤ _
        refine ⟨by omega, ?_⟩
        split <;> omega
    · unfold smS at e
      split at e
      · cases e
        have a2 := a.2
        show (if (_ ∧ _) ∨ (_ ∧ _) then (if _ then s.2.2.2 else s.2.2.1) else -1) = -1 ∨ _
        split
        · split
          · exact Or.inr a2.2
          · exact Or.inr a2.1
        · exact Or.inl rfl
      · split at e <;> cases e
end MBB
section VM
variable {σ τ : Sto} {lf : Int → TL} {V : Int → Int → Int} {n o : Int}
theorem vM_w (h : ¬ σ.I 601 o = 1) : vM σ lf V n o = -1 := by unfold vM vB; rw [if_pos (show zb (WM σ o) = 0 from zb_f h)]
theorem vM_i (h : σ.I 601 o = 1) : ¬ zb (WM σ o) = 0 := by rw [show zb (WM σ o) = 1 from zb_t h]; decide
theorem vM_3 (h : σ.I 601 o = 1) (hk : σ.I 609 n ≤ 3) : vM σ lf V n o = mbV σ V n o := by
  unfold vM vB
  rw [if_neg (vM_i h), if_pos (show TM σ 0 n ≤ 3 from hk)]
  rfl
theorem vM_6 (h : σ.I 601 o = 1) (hk : σ.I 609 n = 6) : vM σ lf V n o = 64 := by
  have e : TM σ 0 n = 6 := hk
  unfold vM vB
  rw [if_neg (vM_i h), e, if_neg (by decide), if_neg (by decide), if_neg (by decide), if_pos rfl]
theorem vM_7 (h : σ.I 601 o = 1) (hk : 7 ≤ σ.I 609 n) : vM σ lf V n o = LfM σ lf n o := by
  have e : TM σ 0 n = σ.I 609 n := rfl
  unfold vM vB
  rw [if_neg (vM_i h), e, if_neg (by omega), if_neg (by omega), if_neg (by omega), if_neg (by omega)]
theorem vM_fo (hk : σ.I 609 n ≤ 3 ∨ σ.I 609 n = 6 ∨ 9 ≤ σ.I 609 n) (h : σ.I 601 o = 1) : vM σ lf (vlA σ) n o = foV σ n o := by
  unfold foV
  rcases hk with z | z | z
  · rw [if_pos z]; exact vM_3 h z
  · rw [if_neg (by omega), if_pos z]; exact vM_6 h z
  · rw [if_neg (by omega), if_neg (by omega), vM_7 h (by omega)]; unfold LfM; rw [if_neg (by omega), if_neg (by omega)]
theorem vM_tx (hk : σ.I 609 n = 7) : vM σ lf V n o = txV σ (lf n) n o := by
  by_cases h : σ.I 601 o = 1
  · rw [vM_7 h (by omega)]; unfold LfM; rw [if_pos hk]
  · rw [vM_w h, txV_no (fun z => h z.1)]
theorem vM_va (hk : σ.I 609 n = 8) : vM σ lf V n o = vaV σ n o := by
  by_cases h : σ.I 601 o = 1
  · rw [vM_7 h (by omega)]; unfold LfM; rw [if_neg (by omega), if_pos hk]
  · rw [vM_w h]; unfold vaV; rw [if_neg (fun z => h (zb_1.mp z).1)]
theorem vM_ch (hk : σ.I 609 n = 5) : vM σ lf (vlA σ) n o = chV σ n o := by
  have e : TM σ 0 n = 5 := hk
  by_cases h : σ.I 601 o = 1
  · unfold vM vB chV
    rw [if_neg (vM_i h), e, if_neg (by decide), if_neg (by decide), if_pos rfl]
    by_cases y : 0 ≤ σ.I 591 o ∧ σ.I 601 (σ.I 591 o) = 1
    · rw [if_pos (show zb (0 ≤ σ.I 591 o ∧ WM σ (σ.I 591 o)) = 1 from zb_t y), if_pos (zb_t ⟨h, y⟩)]; rfl
    · rw [if_neg (show ¬ zb (0 ≤ σ.I 591 o ∧ WM σ (σ.I 591 o)) = 1 from fun z => y (zb_1.mp z)), if_neg (show ¬ zb (σ.I 601 o = 1 ∧ 0 ≤ σ.I 591 o ∧ σ.I 601 (σ.I 591 o) = 1) = 1 from fun z => y (zb_1.mp z).2)]
  · rw [vM_w h]; unfold chV; rw [if_neg (fun z => h (zb_1.mp z).1)]
theorem vM_pa (hk : σ.I 609 n = 4) (hs : ∀ k, 0 ≤ k → k < 600 → 0 ≤ σ.I 622 (601 * σ.I 610 n + k)) : vM σ lf (vlA σ) n o = if paV σ n o 600 = 1 then 64 else -1 := by
  have e : TM σ 0 n = 4 := hk
  by_cases h : σ.I 601 o = 1
  · have q : paV σ n o 600 = zb (exN (fun k => WM σ k ∧ σ.I 591 k = o ∧ 0 ≤ vlA σ (σ.I 610 n) k) 600) := by
      unfold paV
      congr 1
      refine propext ⟨fun z => ?_, fun z => ⟨h, ?_⟩⟩
      · obtain ⟨k, a, b, c1, c2, c3⟩ := z.2
        exact ⟨k, a, b, c1, c2, by unfold vlA; rw [if_pos c3]; exact hs k a b⟩
      · obtain ⟨k, a, b, c1, c2, c3⟩ := z
        refine ⟨k, a, b, c1, c2, ?_⟩
        unfold vlA at c3
        split at c3
        · assumption
        · omega
    unfold vM vB
    rw [if_neg (vM_i h), e, if_neg (by decide), if_pos rfl, q]
    rfl
  · rw [vM_w h]
    have : paV σ n o 600 = 0 := zb_f (fun z => h z.1)
    rw [this, if_neg (by decide)]
theorem ROW_cg {x m : Int} {V V' : Int → Int} (h : ROW τ x m V) (e : ∀ o, 0 ≤ o → o < m → V' o = V o) : ROW τ x m V' := ⟨fun o a b => by rw [e o a b]; exact h.1 o a b, h.2⟩
theorem ROW_pa {x : Int} {V : Int → Int} (e : τ.I = fun c i => if rg c i 621 (601 * x) (601 * x + 601) then paV σ x (i - 601 * x) 600 else if rg c i 622 (601 * x) (601 * x + 601) then if paV σ x (i - 601 * x) 600 = 1 then 64 else 0 else σ.I c i) (hV : ∀ o, 0 ≤ o → o < 601 → V o = if paV σ x o 600 = 1 then 64 else -1) : ROW τ x 601 V := by
  refine ⟨fun o a b => ?_, fun o a b => by omega⟩
  have h1 : τ.I 621 (601 * x + o) = paV σ x o 600 := by
    rw [e]; show (if rg _ _ _ _ _ then _ else _) = _
    rw [if_pos ⟨rfl, by omega, by omega⟩, show 601 * x + o - 601 * x = o by omega]
  have h2 : τ.I 622 (601 * x + o) = if paV σ x o 600 = 1 then 64 else 0 := by
    rw [e]; show (if rg _ _ _ _ _ then _ else if rg _ _ _ _ _ then _ else _) = _
    rw [if_neg (fun z => absurd z.1 (by decide)), if_pos ⟨rfl, by omega, by omega⟩, show 601 * x + o - 601 * x = o by omega]
  rw [h1, h2, hV o a b]
  rcases paV_in σ x o 600 with z | z
  · rw [z]; exact ⟨by decide, by decide⟩
  · rw [z]; exact ⟨by decide, by decide⟩
end VM
/-- what the working out of one node writes -/
def wsNd (x k : Int) (c : Nat) (i : Int) : Prop := wsTx x k c i ∨ wsQ c i
abbrev KNd (x k : Int) (σ τ : Sto) : Prop := Ch (wsNd x k) σ τ
theorem KNd_rf {x k : Int} {σ : Sto} : KNd x k σ σ := Ch.rf
theorem KNd_of_KTx {x k : Int} {σ τ : Sto} (h : KTx x k σ τ) : KNd x k σ τ := Ch.mono h (fun c i q => Or.inl q)
theorem KNd_of_KRw {x k : Int} {σ τ : Sto} (h : KRw x σ τ) : KNd x k σ τ := Ch.mono h (fun c i q => Or.inl (Or.inr (Or.inr (Or.inl q))))
def EKx (x : Int) (σ τ : Sto) : Prop := Ch (fun c i => wsQ c i ∨ ((c = 621 ∨ c = 622) ∧ 601 * x ≤ i ∧ i < 601 * x + 601)) σ τ
theorem KNd_of_EKx {x k : Int} {σ τ : Sto} (h : EKx x σ τ) : KNd x k σ τ := Ch.mono h (fun c i q => q.elim (fun z => Or.inr z) (fun z => Or.inl (Or.inr (Or.inr (Or.inl ⟨z.1, z.2⟩)))))
theorem EKx_eo {x o : Int} {σ τ : Sto} (h : KEo x o σ τ) (h0 : 0 ≤ o) (h1 : o < 601) : EKx x σ τ := Ch.mono h (fun c i q => q.elim Or.inl (fun z => Or.inr ⟨z.1, by have := z.2; omega, by have := z.2; omega⟩))
theorem KNd_of_KEo {x k o : Int} {σ τ : Sto} (h : KEo x o σ τ) (h0 : 0 ≤ o ∧ o < 601) : KNd x k σ τ := KNd_of_EKx (EKx_eo h h0.1 h0.2)
theorem KM_of_KNd {x k : Int} {σ τ : Sto} (h : KNd x k σ τ) : KM σ τ := Ch.mono h (fun c i q => by unfold wsNd wsTx wsPl wsB wsW wsRw wsQ at2 at q; unfold wsM; omega)
theorem KM_of_EKx {x : Int} {σ τ : Sto} (h : EKx x σ τ) : KM σ τ := KM_of_KNd (k := 0) (KNd_of_EKx h)
theorem ekx {x : Int} {σ τ : Sto} (h : EKx x σ τ) {c : Nat} {i : Int} (q : ¬ (c = 626 ∨ c = 627 ∨ (c = 555 ∧ i = 100))) (q2 : ¬ ((c = 621 ∨ c = 622) ∧ 601 * x ≤ i ∧ i < 601 * x + 601)) : τ.I c i = σ.I c i := h.2 c i (fun z => z.elim q q2)
theorem foV_k {σ τ : Sto} {x o : Int} {pa : Int → Int} (h : EKx x σ τ) (hT : TP σ pa) (hS : SRC σ) (h0 : 0 ≤ x) (h1 : x < σ.I 555 80) (ho : 0 ≤ o ∧ o < 601) : foV τ x o = foV σ x o := by
  have K := KM_of_EKx h
  have hv : ∀ m, 0 ≤ m → m < x → vlA τ m o = vlA σ m o := fun m a b => by unfold vlA; rw [ekx h (by omega) (by omega), ekx h (by omega) (by omega)]
  unfold foV
  rw [km_609 K, hlM_k K hS, mbV_cg hT h0 h1 (km_609 K) (km_610 K) (km_611 K) (km_612 K) (km_613 K) (km_615 K) hv]
theorem NS_row {σ τ : Sto} {x o v : Int} (h : bd_0_1000000000000000 σ 622 78130) (e : ∀ i, i ≠ 601 * x + o → τ.I 622 i = σ.I 622 i) (e1 : τ.I 622 (601 * x + o) = v) (hv : 0 ≤ v ∧ v ≤ 1000000000000000) : bd_0_1000000000000000 τ 622 78130 := fun i a b => by
  by_cases z : i = 601 * x + o
  · rw [z, e1]; exact hv
  · rw [e i z]; exact h i a b
theorem ROW_one {τ υ : Sto} {x n : Int} {V : Int → Int} (h : ROW τ x n V) (hn : 0 ≤ n) (e : ∀ c i, (c = 621 ∨ c = 622) → i ≠ 601 * x + n → υ.I c i = τ.I c i) (e1 : υ.I 621 (601 * x + n) = (if 0 ≤ V n then 1 else 0) ∧ υ.I 622 (601 * x + n) = (if 0 ≤ V n then V n else 0)) : ROW υ x (n + 1) V := by
  refine ⟨fun o a b => ?_, fun o a b => ?_⟩
  · rcases (show o = n ∨ o < n by omega) with z | z
    · rw [z]; exact e1
    · rw [e _ _ (Or.inl rfl) (by omega), e _ _ (Or.inr rfl) (by omega)]; exact h.1 o a z
  · rw [e _ _ (Or.inl rfl) (by omega), e _ _ (Or.inr rfl) (by omega)]; exact h.2 o (by omega) b
theorem TP_k {σ τ : Sto} {pa : Int → Int} (h : KM σ τ) (g : TP σ pa) : TP τ pa := by unfold TP; rw [km_610 h, km_611 h, km_612 h, km_609 h, kmf_80 h]; exact g
theorem txV_in {σ : Sto} {l : TL} {n o : Int} (hO : OB σ 595 596) (hv : VT σ (σ.I 555 30)) (hW : WOB σ) (h0 : 0 ≤ o) (h1 : o < 601) (hn : 0 ≤ nL l ∧ nL l ≤ 16) : txV σ l n o = -1 ∨ (0 ≤ txV σ l n o ∧ txV σ l n o ≤ 140800000) := by
  by_cases h : σ.I 601 o = 1 ∧ 0 < cLo σ l n o
  · have a1 := smL_in (σ := σ) (f := σ.I 614 n) (l := l) (n := nL l) hn.1
    have ob := hO o h0 h1
    have a2 : 0 ≤ cLo σ l n o ∧ cLo σ l n o ≤ 500 * σ.I 596 o := cL_in ob.2.1
    have a3 := cL_tk hO hv hW h0 h1 h.1 h.2
    have a4 := mTO_in σ (σ.I 614 n) o hO hv h0 h1 (hW o h0 h1 h.1)
    have a5 := hwM_in σ (σ.I 614 n)
    rw [txV_yes h]
    exact Or.inr (wgh_bd (by omega) (by omega) (by omega) (by omega) a5)
  · exact Or.inl (txV_no h)
theorem vM_in {σ : Sto} {lf : Int → TL} {V : Int → Int → Int} {n o : Int} {pa : Int → Int} (hT : TP σ pa) (hW : TW σ) (h0 : 0 ≤ n) (hn : n < σ.I 555 80) (hO : OB σ 595 596) (hv : VT σ (σ.I 555 30)) (hWO : WOB σ) (o0 : 0 ≤ o) (o1 : o < 601) (hl : σ.I 609 n = 7 → 0 ≤ nL (lf n) ∧ nL (lf n) ≤ 16) : vM σ lf V n o = -1 ∨ (0 ≤ vM σ lf V n o ∧ vM σ lf V n o ≤ 1000000000000000) := by
  by_cases h : σ.I 601 o = 1
  · rcases (show σ.I 609 n ≤ 3 ∨ σ.I 609 n = 4 ∨ σ.I 609 n = 5 ∨ σ.I 609 n = 6 ∨ σ.I 609 n = 7 ∨ σ.I 609 n = 8 ∨ 9 ≤ σ.I 609 n by omega) with z | z | z | z | z | z | z
    · rw [vM_3 h z]; exact mbV_in hT hW h0 hn
    · have e : TM σ 0 n = 4 := z
      unfold vM vB
      rw [if_neg (vM_i h), e, if_neg (by decide), if_pos rfl]
      split
      · exact Or.inr (by decide)
      · exact Or.inl rfl
    · have e : TM σ 0 n = 5 := z
      have q := (hT n h0 hn).2.2.2.2 (by omega) (by omega)
      have q2 : σ.I 610 n < n := by rcases (hT n h0 hn).1 with y | y; (omega); (exact y.2.1)
      unfold vM vB
      rw [if_neg (vM_i h), e, if_neg (by decide), if_neg (by decide), if_pos rfl]
      split
      · rcases scW_in (W := V) (o := σ.I 591 o) hW q (by omega) with w | w
        · exact Or.inl w
        · exact Or.inr w.2
      · exact Or.inl rfl
    · rw [vM_6 h z]; exact Or.inr (by decide)
    · rw [vM_tx z]
      rcases txV_in (n := n) hO hv hWO o0 o1 (hl z) with w | w
      · exact Or.inl w
      · exact Or.inr ⟨w.1, by omega⟩
    · rw [vM_va z]
      have q := vaS_in σ n
      unfold vaV
      split
      · exact Or.inr ⟨q.1, by omega⟩
      · exact Or.inl rfl
    · rw [vM_7 h (by omega)]
      unfold LfM
      rw [if_neg (by omega), if_neg (by omega)]
      split
      · exact Or.inr (by decide)
      · exact Or.inl rfl
  · exact Or.inl (vM_w h)
theorem NS_ROW {σ τ : Sto} {x : Int} {V : Int → Int} (h : bd_0_1000000000000000 σ 622 78130) (g : bd_0_1 σ 621 78130) (r : ROW τ x 601 V) (e : ∀ c i, c = 621 ∨ c = 622 → ¬ (601 * x ≤ i ∧ i < 601 * x + 601) → τ.I c i = σ.I c i) (hV : ∀ o, 0 ≤ o → o < 601 → V o = -1 ∨ (0 ≤ V o ∧ V o ≤ 1000000000000000)) : bd_0_1000000000000000 τ 622 78130 ∧ bd_0_1 τ 621 78130 := by
  refine ⟨fun i a b => ?_, fun i a b => ?_⟩
  · by_cases z : 601 * x ≤ i ∧ i < 601 * x + 601
    · have q := (r.1 (i - 601 * x) (by omega) (by omega)).2
      rw [show 601 * x + (i - 601 * x) = i by omega] at q
      have w := hV (i - 601 * x) (by omega) (by omega)
      rw [q]; split <;> omega
    · rw [e _ _ (Or.inr rfl) z]; exact h i a b
  · by_cases z : 601 * x ≤ i ∧ i < 601 * x + 601
    · have q := (r.1 (i - 601 * x) (by omega) (by omega)).1
      rw [show 601 * x + (i - 601 * x) = i by omega] at q
      rw [q]; split <;> omega
    · rw [e _ _ (Or.inl rfl) z]; exact g i a b

theorem sp_X9_workNode {E : XE} {d : Nat} {σ : Sto} {lf : Int → TL} {pa : Int → Int} {x1 : Int} (hd : 508 ≤ d) (hL : Lay σ)  (p0 : 0 ≤ x1 ∧ x1 < σ.I 555 80) (p1 : σ.I 555 80 ≤ 130) (p2 : SRC σ) (p3 : TW σ) (p4 : TP σ pa) (p5 : (σ.I 609 x1) = 7 → (0 ≤ (σ.I 555 105) ∧ (σ.I 555 105) + (lf x1).1 ≤ 6000) ∧ ARW σ (σ.I 578 (σ.I 614 x1)) ∧ (lf x1) = (tk σ (σ.I 578 (σ.I 614 x1)) (σ.I (src σ)) (σ.I 555 75 + σ.I 615 x1) (σ.I 555 75 + σ.I 616 x1) (σ.I 555 75 + σ.I 615 x1) 0 tl0)) (p6 : AC σ) (p7 : bd_0_1000000000000000 σ 622 78130) (p8 : CLR σ x1) (p9 : bd_0_1 σ 601 601) (p10 : OB σ 595 596) (p11 : VT σ (σ.I 555 30)) (p12 : σ.I 555 30 ≤ 6000) (p13 : WOB σ) (p14 : bd_0_20 σ 587 24000) (p15 : bd_0_499 σ 590 24000) (p16 : bd_m1_15 σ 635 1024) (p17 : bd_0_20 σ 573 300) (p18 : bd_0_15 σ 630 6000) (p19 : bd_0_20 σ 629 6000) (p20 : bd_0_500 σ 633 16) (p21 : bd_m1_599 σ 591 601) (p22 : bd_0_1 σ 621 78130) (p23 : σ.I 601 600 = 1 → σ.I 591 600 = -1) (p24 : NB σ) : CC E mX9_workNode d [aO 555, aI (x1)] σ (RV (fun τ => (ROW τ x1 601 (vM σ lf (vlA σ) x1)) ∧ ((σ.I 609 x1) = 7 → CSR σ τ x1 601 (txV σ (lf x1) x1) (cLo σ (lf x1) x1) ∧ PLX σ τ x1 (lf x1)) ∧ ((σ.I 609 x1) ≠ 7 → τ.I 555 105 = (σ.I 555 105) ∧ ∀ i, τ.I 623 i = σ.I 623 i) ∧ (bd_m1_15 τ 635 1024) ∧ (bd_0_20 τ 573 300) ∧ (bd_0_15 τ 630 6000) ∧ (bd_0_20 τ 629 6000) ∧ (bd_0_500 τ 633 16) ∧ (bd_0_1000000000000000 τ 622 78130) ∧ (bd_0_1 τ 621 78130) ∧ (KNd x1 (σ.I 555 105) σ τ))) := by sorry
end
section
/-! contracts: printed by tools/mk.py out of s98g_work.py -/
set_option maxRecDepth 100000
set_option maxHeartbeats 1200000
/-! all nodes of a question -/
section WKS
variable {σ τ υ : Sto} {lf : Int → TL} {pa : Int → Int}
theorem vM_4e {V : Int → Int → Int} {n o : Int} (h : σ.I 601 o = 1) (hk : σ.I 609 n = 4) : vM σ lf V n o = if zb (exN (fun k => WM σ k ∧ σ.I 591 k = o ∧ 0 ≤ V (σ.I 610 n) k) 600) = 1 then 64 else -1 := by
  have e : TM σ 0 n = 4 := hk
  unfold vM vB
  rw [if_neg (vM_i h), e, if_neg (by decide), if_pos rfl]
  rfl
theorem vM_5e {V : Int → Int → Int} {n o : Int} (h : σ.I 601 o = 1) (hk : σ.I 609 n = 5) : vM σ lf V n o = if zb (0 ≤ σ.I 591 o ∧ WM σ (σ.I 591 o)) = 1 then scW (tabS (TM σ)) V (σ.I 610 n) (σ.I 591 o) else -1 := by
  have e : TM σ 0 n = 5 := hk
  unfold vM vB
  rw [if_neg (vM_i h), e, if_neg (by decide), if_neg (by decide), if_pos rfl]
  rfl
theorem vM_cg {V V' : Int → Int → Int} {n o : Int} (hT : TP σ pa) (h0 : 0 ≤ n) (hn : n < σ.I 555 80) (hP : bd_m1_599 σ 591 601) (o0 : 0 ≤ o) (o1 : o < 601) (hV : ∀ m k, 0 ≤ m → m < n → 0 ≤ k → k < 601 → V' m k = V m k) : vM σ lf V' n o = vM σ lf V n o := by
  by_cases h : σ.I 601 o = 1
  · rcases (show σ.I 609 n ≤ 3 ∨ σ.I 609 n = 4 ∨ σ.I 609 n = 5 ∨ σ.I 609 n = 6 ∨ 7 ≤ σ.I 609 n by omega) with z | z | z | z | z
    · rw [vM_3 h z, vM_3 h z]; exact mbV_cg hT h0 hn rfl rfl rfl rfl rfl rfl (fun m a b => hV m o a b o0 o1)
    · have q := (hT n h0 hn).2.2.2.2 (by omega) (by omega)
      have q2 : σ.I 610 n < n := by rcases (hT n h0 hn).1 with y | y; (omega); (exact y.2.1)
      rw [vM_4e h z, vM_4e h z]
      have e2 : zb (exN (fun k => WM σ k ∧ σ.I 591 k = o ∧ 0 ≤ V' (σ.I 610 n) k) 600) = zb (exN (fun k => WM σ k ∧ σ.I 591 k = o ∧ 0 ≤ V (σ.I 610 n) k) 600) := by
        congr 1
        refine propext ⟨fun ⟨k, a, b, c1, c2, c3⟩ => ⟨k, a, b, c1, c2, ?_⟩, fun ⟨k, a, b, c1, c2, c3⟩ => ⟨k, a, b, c1, c2, ?_⟩⟩
        · rw [← hV _ k q q2 a (by omega)]; exact c3
        · rw [hV _ k q q2 a (by omega)]; exact c3
      rw [e2]
    · have q := (hT n h0 hn).2.2.2.2 (by omega) (by omega)
      have q2 : σ.I 610 n < n := by rcases (hT n h0 hn).1 with y | y; (omega); (exact y.2.1)
      rw [vM_5e h z, vM_5e h z]
      by_cases y : zb (0 ≤ σ.I 591 o ∧ WM σ (σ.I 591 o)) = 1
      · rw [if_pos y, if_pos y]
        unfold scW
        have w := zb_1.mp y
        have w2 := hP o o0 o1
        rw [show V' (σ.I 610 n) (σ.I 591 o) = V (σ.I 610 n) (σ.I 591 o) from hV _ _ q q2 w.1 (by omega)]
      · rw [if_neg y, if_neg y]
    · rw [vM_6 h z, vM_6 h z]
    · rw [vM_7 h z, vM_7 h z]
  · rw [vM_w h, vM_w h]
/-- what the nodes are worth -/
noncomputable def vNM (σ : Sto) (lf : Int → TL) (f : Nat) : Int → Int → Int := vN (TM σ) (WM σ) (σ.I 591) 600 (LfM σ lf) f
noncomputable def wV (σ : Sto) (lf : Int → TL) : Int → Int → Int := vNM σ lf 200
theorem vNM_f (hT : TP σ pa) (hP : bd_m1_599 σ 591 601) : ∀ (m : Nat) (n o : Int) (f g : Nat), 0 ≤ n → n < (m : Int) → n < σ.I 555 80 → n < (f : Int) → n < (g : Int) → 0 ≤ o → o < 601 → vNM σ lf f n o = vNM σ lf g n o := by
  intro m
  induction m with
  | zero => intro n o f g h0 h1; omega
  | succ m ih =>
    intro n o f g h0 h1 h2 h3 h4 o0 o1
    obtain ⟨f, rfl⟩ : ∃ f', f = f' + 1 := ⟨f - 1, by omega⟩
    obtain ⟨g, rfl⟩ : ∃ g', g = g' + 1 := ⟨g - 1, by omega⟩
    exact vM_cg hT h0 h2 hP o0 o1 (fun k j a b c d => ih k j f g a (by omega) (by omega) (by omega) (by omega) c d)
theorem wV_eq (hT : TP σ pa) (hP : bd_m1_599 σ 591 601) {n o : Int} (h0 : 0 ≤ n) (hn : n < σ.I 555 80) (hc : σ.I 555 80 ≤ 130) (o0 : 0 ≤ o) (o1 : o < 601) : vM σ lf (wV σ lf) n o = wV σ lf n o :=
  vNM_f hT hP 201 n o 201 200 h0 (by omega) hn (by omega) (by omega) o0 o1
/-- the token lists of the text leaves -/
def LFM (σ : Sto) (lf : Int → TL) : Prop := ∀ n, 0 ≤ n → n < σ.I 555 80 → σ.I 609 n = 7 → ARW σ (σ.I 578 (σ.I 614 n)) ∧ lf n = tk σ (σ.I 578 (σ.I 614 n)) (σ.I (src σ)) (σ.I 555 75 + σ.I 615 n) (σ.I 555 75 + σ.I 616 n) (σ.I 555 75 + σ.I 615 n) 0 tl0
noncomputable def pfM (σ : Sto) (lf : Int → TL) (n : Int) : Int := smP (fun k => σ.I 609 k = 7) (fun k => mL (lf k)) n
noncomputable def tfM (σ : Sto) (lf : Int → TL) (n : Int) : Int := smP (fun k => σ.I 609 k = 7) (fun k => (lf k).1) n
theorem mL_in {l : TL} (h : 0 ≤ l.1) : 0 ≤ mL l ∧ mL l ≤ l.1 := by
  unfold mL mPl
  rcases fsF_in (fun i => rk l.2.2.2.2.2 i = 16) 0 l.1 with z | ⟨z1, z2, z3⟩
  · rw [if_pos z]; omega
  · split <;> omega
theorem LFM_l (h : LFM σ lf) (hS : SRC σ) (hT : TW σ) {n : Int} (h0 : 0 ≤ n) (h1 : n < σ.I 555 80) (hk : σ.I 609 n = 7) : 0 ≤ (lf n).1 ∧ (lf n).1 ≤ 250 ∧ TKI (lf n) (σ.I 555 75 + σ.I 615 n) (σ.I 555 75 + σ.I 616 n) (σ.I 555 75 + σ.I 616 n) := by
  obtain ⟨a, b⟩ := h n h0 h1 hk
  have t := hT n h0 h1
  unfold TN at t
  have s := hS.2
  have q := tk_TKI (A := σ.I (src σ)) (f := σ.I 555 75 + σ.I 615 n) (to := σ.I 555 75 + σ.I 616 n) a (by omega) (by have := t.2.2.2.2.2.1.2 (by omega); omega)
  rw [← b] at q
  exact ⟨q.1.1, q.1.2, q⟩
theorem pf_tf (h : LFM σ lf) (hS : SRC σ) (hT : TW σ) : ∀ (k : Nat), (k : Int) ≤ σ.I 555 80 → 0 ≤ pfM σ lf k ∧ pfM σ lf k ≤ tfM σ lf k := by
  intro k
  induction k with
  | zero => intro _; unfold pfM tfM; rw [smP_0 _ _ _ (show ((0 : Nat) : Int) ≤ 0 by omega), smP_0 _ _ _ (show ((0 : Nat) : Int) ≤ 0 by omega)]; omega
  | succ k ih =>
    intro hk
    have i2 := ih (by omega)
    unfold pfM tfM at i2 ⊢
    by_cases z : σ.I 609 (k : Int) = 7
    · have q := LFM_l h hS hT (n := (k : Int)) (by omega) (by omega) z
      have q2 := mL_in q.1
      rw [smP_t (fun k => σ.I 609 k = 7) (fun k => mL (lf k)) (k : Int) ((k + 1 : Nat) : Int) (by omega) (by omega) z, smP_t (fun k => σ.I 609 k = 7) (fun k => (lf k).1) (k : Int) ((k + 1 : Nat) : Int) (by omega) (by omega) z]
      omega
    · rw [smP_f (fun k => σ.I 609 k = 7) (fun k => mL (lf k)) (k : Int) ((k + 1 : Nat) : Int) (by omega) (by omega) z, smP_f (fun k => σ.I 609 k = 7) (fun k => (lf k).1) (k : Int) ((k + 1 : Nat) : Int) (by omega) (by omega) z]
      exact i2
theorem tf_mo (h : LFM σ lf) (hS : SRC σ) (hT : TW σ) {a : Int} (h0 : 0 ≤ a) : ∀ (k : Nat), a + (k : Int) ≤ σ.I 555 80 → tfM σ lf a ≤ tfM σ lf (a + k) ∧ pfM σ lf a ≤ pfM σ lf (a + k) := by
  intro k
  induction k with
  | zero => intro _; rw [show a + ((0 : Nat) : Int) = a by omega]; omega
  | succ k ih =>
    intro hk
    have i2 := ih (by omega)
    unfold pfM tfM at i2 ⊢
    by_cases z : σ.I 609 (a + k) = 7
    · have q := LFM_l h hS hT (n := a + k) (by omega) (by omega) z
      have q2 := mL_in q.1
      rw [smP_t (fun k => σ.I 609 k = 7) (fun k => mL (lf k)) (a + k) (a + ((k + 1 : Nat) : Int)) (by omega) (by omega) z, smP_t (fun k => σ.I 609 k = 7) (fun k => (lf k).1) (a + k) (a + ((k + 1 : Nat) : Int)) (by omega) (by omega) z]
      omega
    · rw [smP_f (fun k => σ.I 609 k = 7) (fun k => mL (lf k)) (a + k) (a + ((k + 1 : Nat) : Int)) (by omega) (by omega) z, smP_f (fun k => σ.I 609 k = 7) (fun k => (lf k).1) (a + k) (a + ((k + 1 : Nat) : Int)) (by omega) (by omega) z]
      exact i2
theorem pf_step {x : Int} (h0 : 0 ≤ x) : (σ.I 609 x = 7 → pfM σ lf (x + 1) = pfM σ lf x + mL (lf x) ∧ tfM σ lf (x + 1) = tfM σ lf x + (lf x).1) ∧ (σ.I 609 x ≠ 7 → pfM σ lf (x + 1) = pfM σ lf x) :=
  ⟨fun z => ⟨smP_t _ _ _ _ h0 rfl z, smP_t _ _ _ _ h0 rfl z⟩, fun z => smP_f _ _ _ _ h0 rfl z⟩
theorem pf_room (h : LFM σ lf) (hS : SRC σ) (hT : TW σ) (hb : tfM σ lf (σ.I 555 80) ≤ 6000) {x : Int} (h0 : 0 ≤ x) (h1 : x < σ.I 555 80) (hk : σ.I 609 x = 7) : 0 ≤ pfM σ lf x ∧ pfM σ lf x + (lf x).1 ≤ 6000 := by
  have a := pf_tf h hS hT x.toNat (by omega)
  rw [show ((x.toNat : Nat) : Int) = x by omega] at a
  have b := (pf_step (σ := σ) (lf := lf) h0).1 hk
  have c := (tf_mo h hS hT (a := x + 1) (by omega) (σ.I 555 80 - (x + 1)).toNat (by omega)).1
  rw [show x + 1 + (((σ.I 555 80 - (x + 1)).toNat : Nat) : Int) = σ.I 555 80 by omega] at c
  omega
theorem pf_le (h : LFM σ lf) (hS : SRC σ) (hT : TW σ) {n x : Int} (h0 : 0 ≤ n) (h1 : n < x) (h2 : x ≤ σ.I 555 80) (hk : σ.I 609 n = 7) : pfM σ lf n + mL (lf n) ≤ pfM σ lf x := by
  have b := (pf_step (σ := σ) (lf := lf) h0).1 hk
  have c := (tf_mo h hS hT (a := n + 1) (by omega) (x - (n + 1)).toNat (by omega)).2
  rw [show n + 1 + (((x - (n + 1)).toNat : Nat) : Int) = x by omega] at c
  omega
/-- what is known of a node that is worked out -/
def NDF (σ τ : Sto) (lf : Int → TL) (n : Int) : Prop := ROW τ n 601 (wV σ lf n) ∧ (∀ o, 0 ≤ o → o < 601 → τ.I 623 (601 * n + o) = if σ.I 609 n = 7 ∧ 0 ≤ wV σ lf n o then cLo σ (lf n) n o else 0) ∧
  (σ.I 609 n = 7 → (τ.I 631 n = pfM σ lf n ∧ τ.I 632 n = pfM σ lf n + mL (lf n)) ∧ PLN τ (pfM σ lf n) (lf n) (mL (lf n)) ∧ PPN τ 648 (16 * n) (lf n) (nL (lf n)))
def WKB (τ : Sto) : Prop := bd_m1_15 τ 635 1024 ∧ bd_0_20 τ 573 300 ∧ bd_0_15 τ 630 6000 ∧ bd_0_20 τ 629 6000 ∧ bd_0_500 τ 633 16 ∧ bd_0_1000000000000000 τ 622 78130 ∧ bd_0_1 τ 621 78130
def WKN (σ τ : Sto) (lf : Int → TL) (x : Int) : Prop := (∀ n, 0 ≤ n → n < x → NDF σ τ lf n) ∧ τ.I 555 105 = pfM σ lf x ∧ WKB τ
theorem NDF_fr {n : Int} (h : NDF σ τ lf n) (hm : σ.I 609 n = 7 → 0 ≤ mL (lf n) ∧ nL (lf n) ≤ 16 ∧ ∀ j, 0 ≤ j → j < mL (lf n) → (lf n).2.1 j ≤ 20) (e1 : ∀ c i, (c = 621 ∨ c = 622 ∨ c = 623) → 601 * n ≤ i → i < 601 * n + 601 → υ.I c i = τ.I c i)
    (e2 : ∀ c, (c = 631 ∨ c = 632) → υ.I c n = τ.I c n) (e3 : ∀ i, σ.I 609 n = 7 → i < pfM σ lf n + mL (lf n) → υ.I 629 i = τ.I 629 i ∧ υ.I 630 i = τ.I 630 i) (e4 : ∀ i, σ.I 609 n = 7 → i < 20 * (pfM σ lf n + mL (lf n)) → υ.I 628 i = τ.I 628 i) (e5 : ∀ i, 16 * n ≤ i → i < 16 * n + 16 → υ.I 648 i = τ.I 648 i) : NDF σ υ lf n := by
  obtain ⟨a, b, c⟩ := h
  refine ⟨ROW_fr a (by omega) (fun o x y => ⟨e1 _ _ (Or.inl rfl) (by omega) (by omega), e1 _ _ (Or.inr (Or.inl rfl)) (by omega) (by omega)⟩) (by omega), fun o x y => by rw [e1 _ _ (Or.inr (Or.inr rfl)) (by omega) (by omega)]; exact b o x y, fun k => ?_⟩
  obtain ⟨⟨c1, c2⟩, c3, c4⟩ := c k
  obtain ⟨m1, m2, m3⟩ := hm k
  refine ⟨⟨by rw [e2 _ (Or.inl rfl)]; exact c1, by rw [e2 _ (Or.inr rfl)]; exact c2⟩, fun j x y => ?_, fun q x y => by rw [e5 _ (by omega) (by omega)]; exact c4 q x y⟩
  obtain ⟨z1, z2, z3⟩ := c3 j x y
  have q := e3 (pfM σ lf n + j) k (by omega)
  have s := m3 j x y
  exact ⟨by rw [q.1]; exact z1, by rw [q.2]; exact z2, fun i u v => by rw [e4 _ k (by omega)]; exact z3 i u v⟩
end WKS
section KKS
variable {σ τ : Sto}
theorem mT_k' (h : KM σ τ) : mT τ = mT σ := by funext A i n t; unfold mT; rw [km_587 h, km_586 h]
theorem lkL_k (h : KM σ τ) : lkL τ = lkL σ := by funext l m p t; unfold lkL; rw [mT_k' h]
theorem sqL_k (h : KM σ τ) : sqL τ = sqL σ := by funext l m v p x; unfold sqL; rw [lkL_k h, tcM_k h, km_582 h, km_590 h]
theorem mtL_k (h : KM σ τ) : mtL τ = mtL σ := by funext l sl v; unfold mtL; rw [sqL_k h]
theorem cL_k (h : KM σ τ) : cL τ = cL σ := by funext f l sl o m; unfold cL; rw [mV_k h, mtL_k h, km_595 h]
theorem cLo_k (h : KM σ τ) : cLo τ = cLo σ := by funext l n o; unfold cLo; rw [cL_k h, km_614 h, km_617 h, km_596 h]
theorem dL_k (h : KM σ τ) : dL τ = dL σ := by funext f l q; unfold dL; rw [mHT_k h, km_601 h]
theorem idL_k (h : KM σ τ) : idL τ = idL σ := by funext f l q; unfold idL; rw [dL_k h, hwM_k h]
theorem smL_k (h : KM σ τ) : smL τ = smL σ := by funext f l n; unfold smL plL; rw [idL_k h]
theorem txV_k (h : KM σ τ) : txV τ = txV σ := by funext l n o; unfold txV; rw [cLo_k h, smL_k h, mAT_k h, mTO_k h, hwM_k h, km_601 h, km_614 h, kmf_98 h]
theorem srcI_k (h : KM σ τ) (g : SRC σ) : τ.I (src σ) = σ.I (src σ) := funext fun i => h.2 _ i (by have z := g.1.2.2; unfold wsM; omega)
theorem vaV_k (h : KM σ τ) (g : SRC σ) : vaV τ = vaV σ := by
  funext n o
  unfold vaV vaS vaZ
  rw [mHT_k h, mHV_k h, src_k h, srcI_k h g, km_601 h, km_614 h, km_615 h, km_616 h, kmf_75 h, kmf_98 h]
theorem LfM_k (h : KM σ τ) (g : SRC σ) (lf : Int → TL) : LfM τ lf = LfM σ lf := by funext n o; unfold LfM; rw [txV_k h, vaV_k h g, hlM_k h g, km_609 h]
theorem TM_k (h : KM σ τ) : TM τ = TM σ := by funext c i; unfold TM; rw [km_609 h, km_610 h, km_611 h, km_612 h, km_613 h, km_615 h]
theorem vM_k (h : KM σ τ) (g : SRC σ) (lf : Int → TL) : vM τ lf = vM σ lf := by
  funext V n o
  unfold vM
  rw [TM_k h, LfM_k h g lf, km_591 h, show WM τ = WM σ from funext fun o => by unfold WM; rw [km_601 h]]
theorem ARW_k (h : KM σ τ) {a : Int} (g : ARW σ a) : ARW τ a := by unfold ARW; rw [km_560 h, km_562 h, km_564 h]; exact g
theorem LFM_k (h : KM σ τ) (g : SRC σ) {lf : Int → TL} (q : LFM σ lf) : LFM τ lf := by
  intro n a b c
  rw [km_609 h] at c
  rw [kmf_80 h] at b
  obtain ⟨q1, q2⟩ := q n a b c
  rw [km_614 h, km_578 h, km_615 h, km_616 h, kmf_75 h, src_k h, srcI_k h g, tk_k h]
  exact ⟨ARW_k h q1, q2⟩
/-- one node more -/
theorem WKN_s {τ υ : Sto} {lf : Int → TL} {pa : Int → Int} {x : Int} (hK : KM σ τ) (hS : SRC σ) (hTW : TW σ) (hT : TP σ pa) (hL : LFM σ lf) (hO : OB σ 595 596) (hv : VT σ (σ.I 555 30)) (hWO : WOB σ) (hP : bd_m1_599 σ 591 601) (h0 : 0 ≤ x) (h1 : x < σ.I 555 80) (hc : σ.I 555 80 ≤ 130) (w : WKN σ τ lf x) (hz : ∀ o, 0 ≤ o → o < 601 → τ.I 623 (601 * x + o) = 0)
    (r0 : ROW υ x 601 (vM τ lf (vlA τ) x)) (r1 : τ.I 609 x = 7 → CSR τ υ x 601 (txV τ (lf x) x) (cLo τ (lf x) x) ∧ PLX τ υ x (lf x)) (r2 : τ.I 609 x ≠ 7 → υ.I 555 105 = τ.I 555 105 ∧ ∀ i, υ.I 623 i = τ.I 623 i) (r3 : WKB υ) (k : KNd x (τ.I 555 105) τ υ)
    (hnl : ∀ n, 0 ≤ n → n ≤ x → σ.I 609 n = 7 → 0 ≤ nL (lf n) ∧ nL (lf n) ≤ 16) : WKN σ υ lf (x + 1) := by
  have hin : ∀ n o, 0 ≤ n → n ≤ x → 0 ≤ o → o < 601 → wV σ lf n o = -1 ∨ (0 ≤ wV σ lf n o ∧ wV σ lf n o ≤ 1000000000000000) := fun n o a b c d => by
    rw [← wV_eq hT hP a (by omega) hc c d]
    exact vM_in hT hTW a (by omega) hO hv hWO c d (fun z => hnl n a b z)
  have hvl : ∀ m o, 0 ≤ m → m < x → 0 ≤ o → o < 601 → vlA τ m o = wV σ lf m o := fun m o a b c d => ROW_vl (w.1 m a b).1 c d ((hin m o a (by omega) c d).imp id (fun z => z.1))
  have hvv : ∀ o, 0 ≤ o → o < 601 → vM τ lf (vlA τ) x o = wV σ lf x o := fun o a b => by
    rw [vM_k hK hS lf, ← wV_eq hT hP h0 h1 hc a b]
    exact vM_cg hT h0 h1 hP a b hvl
  have k609 := congrFun (km_609 hK) x
  have st := pf_step (σ := σ) (lf := lf) h0
  have pl := w.2.1
  refine ⟨fun n a b => ?_, ?_, r3⟩
  · rcases (show n < x ∨ n = x by omega) with z | z
    · have hfr : ∀ c i, ¬ wsNd x (τ.I 555 105) c i → υ.I c i = τ.I c i := fun c i q => k.2 c i q
      refine NDF_fr (w.1 n a z) (fun q => ?_) (fun c i q u v => hfr _ _ ?_) (fun c q => hfr _ _ ?_) (fun i q u => ⟨hfr _ _ ?_, hfr _ _ ?_⟩) (fun i q u => hfr _ _ ?_) (fun i u v => hfr _ _ ?_)
      · have q1 := LFM_l hL hS hTW a (by omega) q
        have q2 := mL_in q1.1
        exact ⟨q2.1, (hnl n a (by omega) q).2, fun j x y => (q1.2.2.2.1 j x (by omega)).2.2.2.2.2⟩
      · unfold wsNd wsTx wsPl wsB wsW wsRw wsQ at2; omega
      · unfold wsNd wsTx wsPl wsB wsW wsRw wsQ at2; omega
      · have := pf_le hL hS hTW a z (by omega) q
        unfold wsNd wsTx wsPl wsB wsW wsRw wsQ at2; omega
      · have := pf_le hL hS hTW a z (by omega) q
        unfold wsNd wsTx wsPl wsB wsW wsRw wsQ at2; omega
      · have := pf_le hL hS hTW a z (by omega) q
        unfold wsNd wsTx wsPl wsB wsW wsRw wsQ at2; omega
      · unfold wsNd wsTx wsPl wsB wsW wsRw wsQ at2; omega
    · subst z
      refine ⟨ROW_cg r0 (fun o c d => (hvv o c d).symm), fun o c d => ?_, fun q => ?_⟩
      · by_cases q : σ.I 609 n = 7
        · have e := (r1 (by omega)).1 o c d
          rw [e, hz o c d]
          have ev := hvv o c d
          rw [vM_tx (by omega)] at ev
          rw [ev, cLo_k hK]
          by_cases y : 0 ≤ wV σ lf n o
          · rw [if_pos ⟨d, y⟩, if_pos ⟨q, y⟩]
          · rw [if_neg (fun u => y u.2), if_neg (fun u => y u.2)]
        · rw [(r2 (by omega)).2, hz o c d, if_neg (fun u => q u.1)]
      · have e := (r1 (by omega)).2
        rw [← pl]
        exact ⟨⟨e.1.1, e.1.2.1⟩, e.2.2.1, e.2.2.2.2.1⟩
  · by_cases q : σ.I 609 x = 7
    · rw [((r1 (by omega)).2).1.2.2, pl, (st.1 q).1]
    · rw [(r2 (by omega)).1, pl, st.2 q]
end KKS
theorem WKN_fr {σ τ υ : Sto} {lf : Int → TL} {x : Int} (w : WKN σ τ lf x) (hm : ∀ n, 0 ≤ n → n < x → σ.I 609 n = 7 → 0 ≤ mL (lf n) ∧ nL (lf n) ≤ 16 ∧ ∀ j, 0 ≤ j → j < mL (lf n) → (lf n).2.1 j ≤ 20) (e : ∀ c i, ¬ ((c = 621 ∨ c = 622 ∨ c = 623) ∧ 601 * x ≤ i) → c ≠ 624 → c ≠ 625 → υ.I c i = τ.I c i) (b1 : bd_0_1000000000000000 υ 622 78130) (b2 : bd_0_1 υ 621 78130) : WKN σ υ lf x := by
  obtain ⟨w1, w2, ⟨d1, d2, d3, d4, d5, d6, d7⟩⟩ := w
  have k : ∀ c, (c = 635 ∨ c = 573 ∨ c = 630 ∨ c = 629 ∨ c = 633) → υ.I c = τ.I c := fun c q => funext fun i => e c i (by omega) (by omega) (by omega)
  refine ⟨fun n a b => NDF_fr (w1 n a b) (hm n a b) (fun c i q u v => e c i (by omega) (by omega) (by omega)) (fun c q => e c n (by omega) (by omega) (by omega)) (fun i q u => ⟨e _ i (by omega) (by omega) (by omega), e _ i (by omega) (by omega) (by omega)⟩) (fun i q u => e _ i (by omega) (by omega) (by omega)) (fun i u v => e _ i (by omega) (by omega) (by omega)), by rw [e _ _ (by omega) (by omega) (by omega)]; exact w2, bd_m1_15_eq d1 (k _ (by omega)), bd_0_20_eq d2 (k _ (by omega)), bd_0_15_eq d3 (k _ (by omega)), bd_0_20_eq d4 (k _ (by omega)), bd_0_500_eq d5 (k _ (by omega)), b1, b2⟩
/-- the row at hand is empty so far -/
def CLP (τ : Sto) (x n : Int) : Prop := ∀ o, 0 ≤ o → o < n → τ.I 621 (601 * x + o) = 0 ∧ τ.I 622 (601 * x + o) = 0 ∧ τ.I 623 (601 * x + o) = 0
theorem CLP_s {τ υ : Sto} {x n : Int} (h : CLP τ x n) (hn : 0 ≤ n) (e : ∀ c i, c = 621 ∨ c = 622 ∨ c = 623 → υ.I c i = if i = 601 * x + n then 0 else τ.I c i) : CLP υ x (n + 1) := fun o a b => by
  rw [e _ _ (Or.inl rfl), e _ _ (Or.inr (Or.inl rfl)), e _ _ (Or.inr (Or.inr rfl))]
  by_cases z : o = n
  · have zz : 601 * x + o = 601 * x + n := by omega
    rw [if_pos zz, if_pos zz, if_pos zz]; exact ⟨rfl, rfl, rfl⟩
  · have zz : ¬ 601 * x + o = 601 * x + n := by omega
    rw [if_neg zz, if_neg zz, if_neg zz]; exact h o a (by omega)
/-- what it all comes to, object by object -/
def MSC (σ τ : Sto) (V : Int → Int) (t n : Int) : Prop := ∀ o, 0 ≤ o → o < n → τ.I 624 o = (if 0 ≤ V o then 1 else 0) ∧ τ.I 625 o = prd t (if 0 ≤ V o then V o else 0)

theorem nL_in {l : TL} (h : 0 ≤ l.1) : 0 ≤ nL l ∧ nL l ≤ 16 := by
  have e : nL l = nPl l.2.2.2.2.2 (mL l) := rfl
  have hb := nPl_b (p := l.2.2.2.2.2) (n := mL l)
  refine ⟨by omega, ?_⟩
  have hm := mL_in h
  rcases Int.lt_or_le 0 (mL l) with z | z
  · rw [e, nPl_e z]
    rcases Int.lt_or_le 15 (rk l.2.2.2.2.2 (mL l - 1)) with y | y
    · exfalso
      -- some place below has rank 16 already
      have key : ∀ k : Nat, 16 ≤ rk l.2.2.2.2.2 (k : Int) → ∃ i, 0 ≤ i ∧ i ≤ (k : Int) ∧ rk l.2.2.2.2.2 i = 16 := by
        intro k
        induction k with
        | zero => intro q; rw [rk_0 (by omega)] at q; omega
        | succ k ih =>
          intro q
          have s := rk_s (p := l.2.2.2.2.2) (j := (k : Int)) (m := ((k + 1 : Nat) : Int)) (by omega) (by omega)
          rcases Int.lt_or_le 15 (rk l.2.2.2.2.2 (k : Int)) with w | w
          · obtain ⟨i, a, b, c⟩ := ih (by omega)
            exact ⟨i, a, by omega, c⟩
          · refine ⟨((k + 1 : Nat) : Int), by omega, Int.le_refl _, ?_⟩
            split at s <;> omega
      obtain ⟨i, a, b, c⟩ := key (mL l - 1).toNat (by rw [show (((mL l - 1).toNat : Nat) : Int) = mL l - 1 by omega]; omega)
      have hi : i < mL l := by omega
      unfold mL mPl at hi
      have f := fsF_no (q := fun i => rk l.2.2.2.2.2 i = 16) a (show i < l.1 by omega) c
      rw [if_neg f] at hi
      have g := (fsF_bt (fun i => rk l.2.2.2.2.2 i = 16) 0 l.1 (by omega) h).2 f i a hi
      exact g c
    · omega
  · rw [e, hb.2.2 z]; omega

theorem WKB_e {σ τ : Sto} (h : WKB σ) (e : ∀ c i, c ≠ 555 → τ.I c i = σ.I c i) : WKB τ := by
  obtain ⟨d1, d2, d3, d4, d5, d6, d7⟩ := h
  have k : ∀ c, c ≠ 555 → τ.I c = σ.I c := fun c q => funext fun i => e c i q
  exact ⟨bd_m1_15_eq d1 (k _ (by decide)), bd_0_20_eq d2 (k _ (by decide)), bd_0_15_eq d3 (k _ (by decide)), bd_0_20_eq d4 (k _ (by decide)), bd_0_500_eq d5 (k _ (by decide)), bd_0_1000000000000000_eq d6 (k _ (by decide)), bd_0_1_eq d7 (k _ (by decide))⟩

theorem sp_X9_work {E : XE} {d : Nat} {σ : Sto} {lf : Int → TL} {pa : Int → Int} (hd : 509 ≤ d) (hL : Lay σ)  (p0 : 1 ≤ (σ.I 555 80) ∧ (σ.I 555 80) ≤ 130) (p1 : SRC σ) (p2 : TW σ) (p3 : TP σ pa) (p4 : AC σ) (p5 : LFM σ lf) (p6 : tfM σ lf (σ.I 555 80) ≤ 6000) (p7 : bd_0_1 σ 601 601) (p8 : OB σ 595 596) (p9 : VT σ (σ.I 555 30)) (p10 : σ.I 555 30 ≤ 6000) (p11 : WOB σ) (p12 : bd_0_20 σ 587 24000) (p13 : bd_0_499 σ 590 24000) (p14 : WKB σ) (p15 : bd_m1_599 σ 591 601) (p16 : σ.I 601 600 = 1 → σ.I 591 600 = -1) (p17 : NB σ) : CC E mX9_work d [aO 555] σ (RV (fun τ => (WKN σ τ lf (σ.I 555 80)) ∧ (MSC σ τ (wV σ lf ((σ.I 555 80) - 1)) (σ.I 613 ((σ.I 555 80) - 1)) 601) ∧ (KM σ τ))) := by sorry
end
section
/-! contracts: printed by tools/mk.py out of s98h_qrd.py -/
set_option maxRecDepth 100000
set_option maxHeartbeats 1200000
/-! how many tokens a text has, by its bytes -/
theorem aT_le (s : TS) (n : Int) (r : Int → Int) : (aT s n r).1 ≤ s.1 + 1 := by
  unfold aT
  split
  · omega
  · exact Int.le_refl _
theorem grN_le (g : Int) (v : Int → Int) (s : TS) : ∀ k : Nat, (grN g v s k).1 ≤ s.1 + k := by
  intro k
  induction k with
  | zero => show s.1 ≤ _; omega
  | succ k ih => have := aT_le (grN g v s k) g (fun j => v (k + j)); show (aT (grN g v s k) g (fun j => v (k + j))).1 ≤ _; omega
theorem syN_le (σ : Sto) (a : Int) (w : Int → Int) (n : Int) (s : TS) : ∀ k : Nat, (syN σ a w n s k).1 ≤ s.1 + k := by
  intro k
  induction k with
  | zero => show s.1 ≤ _; omega
  | succ k ih =>
    show (if zb (tdQ σ w n (60 * a + 20 + 2 * k)) = 1 then aT (syN σ a w n s k) (σ.I 564 (60 * a + 20 + 2 * k + 1)) (fun j => σ.I 563 (20 * (60 * a + 20 + 2 * k + 1) + j)) else syN σ a w n s k).1 ≤ _
    split
    · have := aT_le (syN σ a w n s k) (σ.I 564 (60 * a + 20 + 2 * k + 1)) (fun j => σ.I 563 (20 * (60 * a + 20 + 2 * k + 1) + j)); omega
    · omega
theorem wT_le {σ : Sto} {a n : Int} {w : Int → Int} (hg : 0 ≤ σ.I 560 a) (hs : σ.I 562 a ≤ 20) (hn : 1 ≤ n) : (wT σ a w n).1 ≤ n + 20 := by
  have h1 : (wT1 σ a w n).1 ≤ n := by
    by_cases h : σ.I 560 a = 0 ∨ stmL (σ.I 559 a) w n ≤ σ.I 560 a
    · rw [wT1_1 h]
      have := aT_le eT0 (min (stmL (σ.I 559 a) w n) 20) (stmW (σ.I 559 a) w n)
      have e : eT0.1 = 0 := rfl
      omega
    · rw [wT1_2 h]
      unfold gr
      have b := stmL_b (w := w) (n := n) (σ.I 559 a) (by omega)
      have := grN_le (σ.I 560 a) (stmW (σ.I 559 a) w n) eT0 (stmL (σ.I 559 a) w n - σ.I 560 a + 1).toNat
      have e : eT0.1 = 0 := rfl
      omega
  unfold wT sy
  have := syN_le σ a w n (wT1 σ a w n) (σ.I 562 a).toNat
  omega
theorem we_e {A : Int → Int} {b to : Int} (h0 : 0 ≤ b) : to ≤ we A b to ∨ ¬ isLet (A (we A b to) % 256) := by
  unfold we
  rcases fsF_in (fun k => ¬ isLet (A k % 256)) b to with z | ⟨z1, z2, z3⟩
  · rw [if_pos z]; exact Or.inl (Int.le_refl _)
  · rw [if_neg (by omega)]; exact Or.inr z3
theorem tk_cnt {σ : Sto} {a : Int} {A : Int → Int} {f to : Int} (hg : 0 ≤ σ.I 560 a) (hs : σ.I 562 a ≤ 20) (h0 : 0 ≤ f) (h : f ≤ to) : (tk σ a A f to f 0 tl0).1 ≤ 12 * (to - f + 1) := by
  unfold tk
  refine rs_pi (P := fun r : TL => r.1 ≤ 12 * (to - f + 1)) (I := fun s : Int × Int × TL => (f ≤ s.1 ∧ s.1 ≤ to) ∧ (s.2.2.1 ≤ 12 * (s.1 - f) ∨ (s.2.2.1 ≤ 12 * (s.1 - f + 1) ∧ (to ≤ s.1 ∨ ¬ isLet (A s.1 % 256))))) (fun s s' hi e => ?_) (fun s r hi e => ?_) (by show (0 : Int) ≤ _; omega) ⟨⟨Int.le_refl _, h⟩, Or.inl (by show (0 : Int) ≤ _; omega)⟩
  · obtain ⟨⟨a1, a2⟩, a3⟩ := hi
    unfold tkS at e
    split at e
    · rename_i c1
      split at e
      · rename_i c2
        have c2 := zb_1.mp c2
        have w1 := we_b (A := A) (to := to) (show 0 ≤ s.1 by omega) c1 c2
        have w2 := we_e (A := A) (b := s.1) (to := to) (by omega)
        have a4 : s.2.2.1 ≤ 12 * (s.1 - f) := by
          rcases a3 with z | ⟨z1, z2 | z2⟩
          · exact z
          · omega
          · contradiction
        split at e
        · cases e; exact ⟨⟨by show f ≤ we A s.1 to; omega, w1.2⟩, Or.inl (by show s.2.2.1 ≤ 12 * (we A s.1 to - f); omega)⟩
        · split at e
          · cases e
            have q := wT_le (a := a) (w := wF σ a A s.1 (we A s.1 to - s.1)) (n := we A s.1 to - s.1) hg hs (by omega)
            refine ⟨⟨by show f ≤ we A s.1 to; omega, w1.2⟩, Or.inr ⟨?_, w2⟩⟩
            show s.2.2.1 + (wT σ a (wF σ a A s.1 (we A s.1 to - s.1)) (we A s.1 to - s.1)).1 ≤ 12 * (we A s.1 to - f + 1)
            omega
          · cases e
      · cases e
        refine ⟨⟨by show f ≤ s.1 + 1; omega, by show s.1 + 1 ≤ to; omega⟩, Or.inl ?_⟩
        show s.2.2.1 ≤ 12 * (s.1 + 1 - f)
        rcases a3 with z | z <;> omega
    · cases e
  · obtain ⟨⟨a1, a2⟩, a3⟩ := hi
    have a4 : s.2.2.1 ≤ 12 * (s.1 - f + 1) := by rcases a3 with z | z <;> omega
    unfold tkS at e
    split at e
    · split at e
      · split at e
        · cases e
        · split at e
          · cases e
          · cases e; show s.2.2.1 ≤ _; omega
      · cases e
    · cases e; show s.2.2.1 ≤ _; omega
/-! a question that the model has read -/
noncomputable def lsM (σ : Sto) (n : Int) : TL := tk σ (σ.I 578 (σ.I 614 n)) (σ.I (src σ)) (σ.I 555 75 + σ.I 615 n) (σ.I 555 75 + σ.I 616 n) (σ.I 555 75 + σ.I 615 n) 0 tl0
noncomputable def paM (σ : Sto) : Int → Int := Classical.epsilon (fun pa => TP σ pa)
/-- fields have analysers that are there -/
def FAB (σ : Sto) : Prop := ∀ f, 0 ≤ f → f < σ.I 555 27 → 0 ≤ σ.I 578 f ∧ σ.I 578 f ≤ 5
def QLD (σ : Sto) : Prop := SRC σ ∧ TW σ ∧ TP σ (paM σ) ∧ (1 ≤ σ.I 555 80 ∧ σ.I 555 80 ≤ 119) ∧ ∀ k j, 0 ≤ k → k < j → j < σ.I 555 80 → σ.I 609 k = 7 → σ.I 609 j = 7 → σ.I 616 k < σ.I 615 j
theorem QLD_mk {τ : Sto} {v t : Int} (hS : SRC τ) (hf : FAB τ) (hP : PO (eM τ) s00 (psM τ) v t) : QLD τ := by
  obtain ⟨_, h2, h3, h4, ⟨pa, hc1, hc2, hc3⟩, h6, h7⟩ := hP
  have e2 : v + 1 = τ.I 555 80 := h2
  have e3 : (0 : Int) ≤ v := h3
  have e4 : τ.I 555 76 ≤ τ.I 555 77 := h4.2
  have hT : ∀ c k, c ≤ 8 → 0 ≤ k → k < τ.I 555 80 → (psM τ).T c k = τ.I (609 + c) k := fun c k a b d => psM_T a b d
  have hn : ∀ k, 0 ≤ k → k < τ.I 555 80 → NOr (eM τ) 0 (τ.I 555 76) ((psM τ).row k) := fun k a b => (hc2 k a (by omega)).1
  have hTW : TW τ := by
    intro k a b
    obtain ⟨⟨n1, n2, n3, n4, n5, n6⟩, ⟨m1, m2, m3, m4⟩, m5, m6, m7⟩ := hn k a b
    have g : ∀ c, c ≤ 8 → (psM τ).row k c = τ.I (609 + c) k := fun c x => hT c k x a b
    have g9 : τ.I 609 k = 10 → (psM τ).row k 9 = τ.I 618 k := fun q => by show tM τ 9 k = _; unfold tM; rw [if_pos ⟨a, b⟩, if_neg (by decide), if_neg (by decide), if_pos (by decide), if_pos (Or.inr q)]
    have g10 : τ.I 609 k = 10 → (psM τ).row k 10 = τ.I 619 k := fun q => by show tM τ 10 k = _; unfold tM; rw [if_pos ⟨a, b⟩, if_neg (by decide), if_neg (by decide), if_pos (by decide), if_pos (Or.inr q)]
    have g11 : τ.I 609 k = 10 → (psM τ).row k 11 = τ.I 620 k := fun q => by show tM τ 11 k = _; unfold tM; rw [if_pos ⟨a, b⟩, if_neg (by decide), if_pos rfl, if_pos q]
    rw [g 0 (by omega)] at n1 n3 m1 m2 m3 m4 m5
    rw [g 5 (by omega)] at n2 n3
    rw [g 8 (by omega)] at n4
    rw [g 4 (by omega)] at n5
    rw [g 6 (by omega)] at m1 m2 m3 m4
    rw [g 7 (by omega)] at m2 m3 m4
    have st := hS.2
    unfold lfk at m2
    refine ⟨n1, n2, n4, n5, fun q => hf _ n2.1 (n3 q), ⟨?_, fun q => ?_⟩, m4, fun q => by have m := m5 q; rw [g9 q, g10 q, g11 q] at m; exact m⟩
    · show 0 ≤ τ.I 615 k
      rcases (show τ.I 609 k < 7 ∨ (τ.I 609 k = 7 ∨ τ.I 609 k = 8 ∨ τ.I 609 k = 11 ∨ τ.I 609 k = 12) ∨ (τ.I 609 k = 9 ∨ τ.I 609 k = 10) by have : τ.I (609 + 0) k = τ.I 609 k := rfl; omega) with z | z | z
      · exact (m1 z).1
      · exact (m2 z).1
      · have := (m3 z).1; have y : τ.I (609 + 6) k = τ.I 615 k := rfl; omega
    · show τ.I 615 k ≤ τ.I 616 k ∧ τ.I 616 k ≤ τ.I 555 77
      have y1 : τ.I (609 + 6) k = τ.I 615 k := rfl
      have y2 : τ.I (609 + 7) k = τ.I 616 k := rfl
      have y3 : τ.I (609 + 0) k = τ.I 609 k := rfl
      rcases (show (τ.I 609 k = 7 ∨ τ.I 609 k = 8 ∨ τ.I 609 k = 11 ∨ τ.I 609 k = 12) ∨ (τ.I 609 k = 9 ∨ τ.I 609 k = 10) by omega) with z | z
      · have := m2 z; omega
      · have := m3 z; omega
  have hTP : ∃ pa, TP τ pa := by
    refine ⟨fun k => if pa k = -1 then τ.I 555 80 else pa k, fun k a b => ?_⟩
    obtain ⟨c0, c1, c2⟩ := hc2 k a (by omega)
    have g : ∀ c, c ≤ 8 → (psM τ).T c k = τ.I (609 + c) k := fun c x => hT c k x a b
    obtain ⟨⟨_, _, _, _, _, n6⟩, _, _, m6, _⟩ := c0
    rw [g 1 (by omega)] at c1
    rw [g 2 (by omega)] at c2
    rw [show (psM τ).row k 3 = τ.I (609 + 3) k from g 3 (by omega)] at n6
    rw [show (psM τ).row k 0 = τ.I (609 + 0) k from g 0 (by omega), show (psM τ).row k 1 = τ.I (609 + 1) k from g 1 (by omega)] at m6
    refine ⟨?_, ?_, ?_, n6, fun x y => m6.1 (by have y3 : τ.I (609 + 0) k = τ.I 609 k := rfl; omega)⟩
    · rcases c1 with z | ⟨z1, z2, z3⟩
      · exact Or.inl z
      · refine Or.inr ⟨z1, z2, ?_⟩
        show (if pa (τ.I (609 + 1) k) = -1 then _ else pa (τ.I (609 + 1) k)) = k
        rw [if_neg (by omega)]; exact z3
    · rcases c2 with ⟨z1, z2 | ⟨z2, z3, z4⟩⟩ | ⟨z1, z2, z3 | ⟨z3, z4, z5⟩⟩
      · have := hc1.2.2.2.2.2.2
        rw [hT 2 v (by omega) (by omega) (by omega), ← z2] at this
        exact Or.inl this
      · refine Or.inr ⟨z2, by show τ.I (609 + 2) k < _; omega, ?_⟩
        show (if pa (τ.I (609 + 2) k) = -1 then _ else _) = (if pa k = -1 then _ else _)
        rw [if_pos z4, if_pos z1]
      · exact Or.inl z3
      · refine Or.inr ⟨z3, by show τ.I (609 + 2) k < _; omega, ?_⟩
        show (if pa (τ.I (609 + 2) k) = -1 then _ else pa (τ.I (609 + 2) k)) = (if pa k = -1 then _ else pa k)
        rw [if_neg (by omega), if_neg (by omega)]; exact z5
    · show k < (if pa k = -1 then _ else pa k)
      split
      · exact b
      · rcases c2 with z | z
        · have := z.1; contradiction
        · exact z.1
  refine ⟨hS, hTW, Classical.epsilon_spec hTP, ?_, fun k j a b c d e => ?_⟩
  · have q1 : τ.I 555 80 - 0 ≤ 2 * (τ.I 555 79 - 0) - 1 := h6.2.2
    have q2 : τ.I 555 79 ≤ 60 := h6.2.1
    exact ⟨by omega, by show τ.I 555 80 ≤ 119; omega⟩
  · have q := hc3 k j a b (by omega)
    rw [hT 0 k (by omega) (by omega) (by omega), hT 0 j (by omega) (by omega) c, hT 7 k (by omega) (by omega) (by omega), hT 6 j (by omega) (by omega) c] at q
    exact q (Or.inl d) (Or.inl e)
theorem QLD_lf {σ : Sto} (h : QLD σ) (hA : AC σ) : LFM σ (lsM σ) ∧ tfM σ (lsM σ) (σ.I 555 80) ≤ 6000 := by
  obtain ⟨hS, hT, _, hn, hd⟩ := h
  obtain ⟨g1, g2, g3, g4, g5, g6⟩ := hA
  have st := hS.2
  have har : ∀ n, 0 ≤ n → n < σ.I 555 80 → σ.I 609 n = 7 → 0 ≤ σ.I 578 (σ.I 614 n) ∧ σ.I 578 (σ.I 614 n) ≤ 5 := fun n a b c => (hT n a b).2.2.2.2.1 (by omega)
  have hL : LFM σ (lsM σ) := fun n a b c => by
    have q := har n a b c
    have q1 := g3 _ q.1 (by omega)
    have q2 := g5 _ q.1 (by omega)
    exact ⟨⟨⟨q1.1, by omega⟩, fun k k0 k1 => g6 _ (by omega) (by omega)⟩, rfl⟩
  refine ⟨hL, ?_⟩
  have hsp : ∀ n, 0 ≤ n → n < σ.I 555 80 → σ.I 609 n = 7 → 0 ≤ σ.I 615 n ∧ σ.I 615 n ≤ σ.I 616 n ∧ σ.I 616 n ≤ σ.I 555 77 := fun n a b c => by
    have t := (hT n a b).2.2.2.2.2.1
    have t2 := t.2 (by omega)
    exact ⟨t.1, t2.1, t2.2⟩
  have key : ∀ k : Nat, (k : Int) ≤ σ.I 555 80 → ∃ b, 0 ≤ b ∧ b ≤ σ.I 555 77 + 1 ∧ tfM σ (lsM σ) k ≤ 12 * b ∧ ∀ j, (k : Int) ≤ j → j < σ.I 555 80 → σ.I 609 j = 7 → b ≤ σ.I 615 j := by
    intro k
    induction k with
    | zero =>
      intro _
      refine ⟨0, Int.le_refl _, by omega, ?_, fun j a b c => (hsp j (by omega) b c).1⟩
      unfold tfM; rw [smP_0 _ _ _ (show ((0 : Nat) : Int) ≤ 0 by omega)]; omega
    | succ k ih =>
      intro hk
      obtain ⟨b, b0, b1, b2, b3⟩ := ih (by omega)
      by_cases z : σ.I 609 (k : Int) = 7
      · have q := hsp (k : Int) (by omega) (by omega) z
        have q2 := b3 (k : Int) (Int.le_refl _) (by omega) z
        have q3 := har (k : Int) (by omega) (by omega) z
        have q4 := tk_cnt (σ := σ) (a := σ.I 578 (σ.I 614 k)) (A := σ.I (src σ)) (f := σ.I 555 75 + σ.I 615 k) (to := σ.I 555 75 + σ.I 616 k) (g3 _ q3.1 (by omega)).1 (g5 _ q3.1 (by omega)).2 (by omega) (by omega)
        refine ⟨σ.I 616 k + 1, by omega, by omega, ?_, fun j x y w => ?_⟩
        · unfold tfM at b2 ⊢
          rw [smP_t (fun k => σ.I 609 k = 7) (fun k => (lsM σ k).1) (k : Int) ((k + 1 : Nat) : Int) (by omega) (by omega) z]
          have e : (lsM σ k).1 ≤ 12 * (σ.I 555 75 + σ.I 616 k - (σ.I 555 75 + σ.I 615 k) + 1) := q4
          omega
        · have := hd (k : Int) j (by omega) (by omega) y z w
          omega
      · refine ⟨b, b0, b1, ?_, fun j x y w => b3 j (by omega) y w⟩
        unfold tfM at b2 ⊢
        rw [smP_f (fun k => σ.I 609 k = 7) (fun k => (lsM σ k).1) (k : Int) ((k + 1 : Nat) : Int) (by omega) (by omega) z]
        exact b2
  have h0 := hT
  obtain ⟨b, b0, b1, b2, _⟩ := key (σ.I 555 80).toNat (by have := hn; omega)
  rw [show (((σ.I 555 80).toNat : Nat) : Int) = σ.I 555 80 by have := hn; omega] at b2
  omega
end
section
/-! contracts: printed by tools/mk.py out of s98i_keepS.py -/
set_option maxRecDepth 100000
set_option maxHeartbeats 1200000
/-- what is kept of a search -/
def wsKS (c : Nat) (i : Int) : Prop := (640 ≤ c ∧ c ≤ 647) ∨ c = 649 ∨ c = 650 ∨ (c = 555 ∧ i = 120)
abbrev KKS (σ τ : Sto) : Prop := Ch wsKS σ τ
theorem KKS_rf {σ : Sto} : KKS σ σ := Ch.rf
theorem KKS_w {σ τ : Sto} {a : Nat} {i v : Int} (e : τ = σ.wI a i v) (h : wsKS a i) : KKS σ τ := by subst e; exact Ch.wI Ch.rf h
theorem KKS_c {σ τ : Sto} {a b : Nat} {i j z : Int} (e : τ = σ.cp a i b j z) (q : ∀ y, j ≤ y → y < j + z → wsKS b y) : KKS σ τ := by subst e; exact Ch.cp Ch.rf q
def CPY (σ τ : Sto) (a b : Nat) (n : Int) : Prop := ∀ i, 0 ≤ i → i < n → τ.I b i = σ.I a i
theorem CPY_c {σ τ : Sto} {a b : Nat} {n : Int} (e : τ = σ.cp a 0 b 0 n) : CPY σ τ a b n := fun i x y => by rw [e, I_cp, if_pos ⟨rfl, by omega, by omega⟩]; congr 1; omega
theorem cp_ne {σ τ : Sto} {a b c : Nat} {i n : Int} (e : τ = σ.cp a 0 b 0 n) (h : c ≠ b) : τ.I c i = σ.I c i := by rw [e, I_cp, if_neg (fun z => h z.1)]

theorem sp_X9_keepSearch {E : XE} {d : Nat} {σ : Sto}  (hd : 3 ≤ d) (hL : Lay σ)  (p0 : 1 ≤ σ.I 555 80 ∧ σ.I 555 80 ≤ 130) (p1 : 0 ≤ σ.I 555 105 ∧ σ.I 555 105 ≤ 6000) (p2 : 0 ≤ σ.I 555 66 ∧ σ.I 555 66 ≤ 400) : CC E mX9_keepSearch d [aO 555] σ (RV (fun τ => (τ.I 555 120 = σ.I 555 66) ∧ (CPY σ τ 603 640 (σ.I 555 66)) ∧ (CPY σ τ 621 641 (601 * σ.I 555 80)) ∧ (CPY σ τ 622 642 (601 * σ.I 555 80)) ∧ (CPY σ τ 623 643 (601 * σ.I 555 80)) ∧ (CPY σ τ 628 644 (20 * σ.I 555 105)) ∧ (CPY σ τ 629 645 (σ.I 555 105)) ∧ (CPY σ τ 630 646 (σ.I 555 105)) ∧ (CPY σ τ 648 647 (2080)) ∧ (CPY σ τ 631 649 (130)) ∧ (CPY σ τ 632 650 (130)) ∧ (KKS σ τ))) := by sorry
end
section
/-! contracts: printed by tools/mk.py out of s98j_txp.py -/
set_option maxRecDepth 100000
set_option maxHeartbeats 1200000
/-! a text leaf of the program: what is plain in it -/
section FQ
variable {p : Int → Int} {m L q j : Int}
noncomputable def fqP (p : Int → Int) (m q : Int) : Int := if fsF (fun j => q ≤ rk p j) 0 m = -1 then m else fsF (fun j => q ≤ rk p j) 0 m
theorem fqP_in (h : 0 ≤ m) : 0 ≤ fqP p m q ∧ fqP p m q ≤ m := by
  unfold fqP
  rcases fsF_in (fun j => q ≤ rk p j) 0 m with z | ⟨z1, z2, z3⟩
  · rw [if_pos z]; omega
  · split <;> omega
theorem fqP_lt (h0 : 0 ≤ j) (h1 : j < m) : j < fqP p m q ↔ rk p j < q := by
  have bt := fsF_bt (fun j => q ≤ rk p j) 0 m (Int.le_refl _) (by omega)
  unfold fqP
  by_cases z : fsF (fun j => q ≤ rk p j) 0 m = -1
  · rw [if_pos z]
    have := bt.1 z j h0 h1
    constructor
    · intro _; omega
    · intro _; exact h1
  · rw [if_neg z]
    constructor
    · intro y; have := bt.2 z j h0 y; omega
    · intro y
      rcases Int.lt_or_le j (fsF (fun j => q ≤ rk p j) 0 m) with w | w
      · exact w
      · exfalso
        rcases fsF_in (fun j => q ≤ rk p j) 0 m with c | ⟨c1, c2, c3⟩
        · exact z c
        · have c3 : q ≤ rk p (fsF (fun j => q ≤ rk p j) 0 m) := c3
          have := rk_mo (p := p) c1 w
          omega
theorem fqP_0 (h : 0 ≤ m) (hq : q ≤ 0) : fqP p m q = 0 := by
  have i := fqP_in (p := p) (q := q) h
  rcases (show fqP p m q = 0 ∨ 0 < fqP p m q by omega) with z | z
  · exact z
  · have := (fqP_lt (p := p) (m := m) (q := q) (j := 0) (Int.le_refl _) (by omega)).mp z
    have := rk_in (p := p) (j := 0)
    omega
theorem fqP_m (h : 0 ≤ m) (hq : nPl p m ≤ q) : fqP p m q = m := by
  have i := fqP_in (p := p) (q := q) h
  rcases (show fqP p m q = m ∨ fqP p m q < m by omega) with z | z
  · exact z
  · exfalso
    have a : ¬ rk p (m - 1) < q := by
      intro y
      have := (fqP_lt (p := p) (m := m) (q := q) (j := m - 1) (by omega) (by omega)).mpr y
      omega
    rw [nPl_e (by omega)] at hq
    omega
theorem fqP_rk (h : 0 < m) (hq : 0 ≤ q) (hn : q < nPl p m) : fqP p m q < m ∧ rk p (fqP p m q) = q := by
  have i := fqP_in (p := p) (m := m) (q := q) (by omega)
  rw [nPl_e h] at hn
  have a : fqP p m q ≤ m - 1 := by
    rcases Int.lt_or_le (m - 1) (fqP p m q) with y | y
    · have := (fqP_lt (p := p) (m := m) (q := q) (j := m - 1) (by omega) (by omega)).mp y; omega
    · exact y
  have b : ¬ rk p (fqP p m q) < q := fun y => by have := (fqP_lt (p := p) (m := m) (q := q) (j := fqP p m q) i.1 (by omega)).mpr y; omega
  refine ⟨by omega, ?_⟩
  rcases (show fqP p m q = 0 ∨ 0 < fqP p m q by omega) with z | z
  · rw [z] at b ⊢
    have := rk_0 (p := p) (j := 0) (Int.le_refl _)
    omega
  · have c := (fqP_lt (p := p) (m := m) (q := q) (j := fqP p m q - 1) (by omega) (by omega)).mp (by omega)
    have d := rk_s (p := p) (j := fqP p m q - 1) (m := fqP p m q) (by omega) (by omega)
    split at d <;> omega
theorem fqP_fs (h : 0 < m) (hm : m ≤ L) (hq : 0 ≤ q) (hn : q < nPl p m) : fsF (fun i => rk p i = q) 0 L = fqP p m q := by
  have a := fqP_rk h hq hn
  have i := fqP_in (p := p) (m := m) (q := q) (by omega)
  exact fsF_is i.1 (by omega) a.2 (fun j x y z => by
    have z : rk p j = q := z
    have := (fqP_lt (p := p) (m := m) (q := q) (j := j) x (by omega)).mp y
    omega)
theorem fqP_mo (h : 0 ≤ m) {q' : Int} (hq : q ≤ q') : fqP p m q ≤ fqP p m q' := by
  have i := fqP_in (p := p) (m := m) (q := q) h
  have i' := fqP_in (p := p) (m := m) (q := q') h
  rcases Int.lt_or_le (fqP p m q') (fqP p m q) with z | z
  · have a := (fqP_lt (p := p) (m := m) (q := q) (j := fqP p m q') i'.1 (by omega)).mp z
    have b := (fqP_lt (p := p) (m := m) (q := q') (j := fqP p m q') i'.1 (by omega)).mpr (by omega)
    omega
  · exact z
end FQ
section MXS
variable {T p g : Int → Int} {m L q j TC : Int}
theorem kT_same {a b : Int} (h0 : 0 ≤ a) (h : a ≤ b) (e : kT T a = kT T b) : ∀ i, a ≤ i → i < b → T i < 0 := by
  intro i x y
  rcases Int.lt_or_le (T i) 0 with z | z
  · exact z
  · exfalso
    have s := kT_s (T := T) (j := i) (by omega)
    rw [zb_t z] at s
    have a1 := kT_mo (T := T) h0 x
    have a2 := kT_mo (T := T) (a := i + 1) (b := b) (by omega) (by omega)
    omega
theorem mxP_same {P : Int → Prop} {a b : Int} (h0 : 0 ≤ a) (h : a ≤ b) (hg : ∀ i, a ≤ i → i < b → ¬ P i ∨ g i ≤ 0) : mxP P g b = mxP P g a := by
  obtain ⟨n, rfl⟩ : ∃ n : Nat, b = a + n := ⟨(b - a).toNat, by omega⟩
  clear h
  induction n with
  | zero => rw [show a + ((0 : Nat) : Int) = a by omega]
  | succ n ih =>
    have i2 := ih (fun i x y => hg i x (by omega))
    have s := mxP_s (P := P) (g := g) (n := a + n) (by omega)
    rw [show a + ((n + 1 : Nat) : Int) = a + n + 1 by omega, s]
    rcases hg (a + n) (by omega) (by omega) with z | z
    · rw [if_neg (by rw [zb_f z]; decide)]; exact i2
    · split
      · rw [i2]
        have : 0 ≤ mxP P g a := by
          unfold mxP
          induction a.toNat with
          | zero => exact Int.le_refl _
          | succ k ih2 =>
            show 0 ≤ (if zb (P (k : Int)) = 1 then max (mxN P g k) (g (k : Int)) else mxN P g k)
            split <;> omega
        omega
      · exact i2
/-- the most so far of a place's terms, as far as term x7 -/
def MXI (T p g : Int → Int) (m TC q x6 x7 : Int) : Prop := ∃ j, fqP p m q ≤ j ∧ j ≤ fqP p m (q + 1) ∧ x7 = TC + kT T j ∧ x6 = mxP (fun i => rk p i = q) g j
theorem MXI_0 (h : 0 ≤ m) : MXI T p g m TC q 0 (TC + kT T (fqP p m q)) := by
  have i := fqP_in (p := p) (m := m) (q := q) h
  refine ⟨fqP p m q, Int.le_refl _, fqP_mo h (by omega), rfl, ?_⟩
  rw [mxP_same (a := 0) (Int.le_refl _) i.1 (fun k x y => Or.inl (fun z => by
    have z : rk p k = q := z
    have := (fqP_lt (p := p) (m := m) (q := q) (j := k) x (by omega)).mp y
    omega)), mxP_0 (Int.le_refl _)]
theorem MXI_s {x6 x7 : Int} (h : MXI T p g m TC q x6 x7) (hm : 0 ≤ m) (hx : x7 < TC + kT T (fqP p m (q + 1))) (hg : ∀ i, T i < 0 → g i = 0) : ∃ j, (0 ≤ j ∧ j < m) ∧ 0 ≤ T j ∧ x7 = TC + kT T j ∧ rk p j = q ∧ MXI T p g m TC q (max x6 (g j)) (x7 + 1) := by
  obtain ⟨a, a1, a2, a3, a4⟩ := h
  have i1 := fqP_in (p := p) (m := m) (q := q) hm
  have i2 := fqP_in (p := p) (m := m) (q := q + 1) hm
  -- the next token that has a term
  have key : ∀ (n : Nat) (j : Int), fqP p m q ≤ j → (fqP p m (q + 1) - j).toNat = n → kT T j = kT T a → x6 = mxP (fun i => rk p i = q) g j → j ≤ fqP p m (q + 1) → ∃ j, (0 ≤ j ∧ j < m) ∧ 0 ≤ T j ∧ x7 = TC + kT T j ∧ rk p j = q ∧ MXI T p g m TC q (max x6 (g j)) (x7 + 1) := by
    intro n
    induction n with
    | zero => intro j b1 b2 b3 b4 b5; have e : j = fqP p m (q + 1) := by omega
              rw [e] at b3; omega
    | succ n ih =>
      intro j b1 b2 b3 b4 b5
      have hr : rk p j = q := by
        have c1 : ¬ rk p j < q := fun y => by have := (fqP_lt (p := p) (m := m) (q := q) (j := j) (by omega) (by omega)).mpr y; omega
        have c2 := (fqP_lt (p := p) (m := m) (q := q + 1) (j := j) (by omega) (by omega)).mp (by omega)
        omega
      have s := kT_s (T := T) (j := j) (by omega)
      have ms := mxP_s (P := fun i => rk p i = q) (g := g) (n := j) (by omega)
      rw [if_pos (zb_t hr)] at ms
      rcases Int.lt_or_le (T j) 0 with z | z
      · rw [zb_f (by omega)] at s
        refine ih (j + 1) (by omega) (by omega) (by omega) ?_ (by omega)
        have nn : 0 ≤ mxP (fun i => rk p i = q) g j := by
          unfold mxP
          induction j.toNat with
          | zero => exact Int.le_refl _
          | succ k ih2 =>
            show 0 ≤ (if zb (rk p (k : Int) = q) = 1 then max (mxN _ g k) (g (k : Int)) else mxN _ g k)
            split <;> omega
        rw [ms, hg j z, b4]; omega
      · rw [zb_t z] at s
        refine ⟨j, ⟨by omega, by omega⟩, z, by omega, hr, j + 1, by omega, by omega, by omega, ?_⟩
        rw [ms, b4]
  exact key _ a a1 rfl rfl a4 a2
theorem MXI_e {x6 x7 : Int} (h : MXI T p g m TC q x6 x7) (hm : 0 ≤ m) (hx : TC + kT T (fqP p m (q + 1)) ≤ x7) (hg : ∀ i, T i < 0 → g i = 0) : x6 = mxP (fun i => rk p i = q) g m := by
  obtain ⟨a, a1, a2, a3, a4⟩ := h
  have i1 := fqP_in (p := p) (m := m) (q := q) hm
  have i2 := fqP_in (p := p) (m := m) (q := q + 1) hm
  have mo := kT_mo (T := T) (a := a) (b := fqP p m (q + 1)) (by omega) a2
  have sm := kT_same (T := T) (a := a) (b := fqP p m (q + 1)) (by omega) a2 (by omega)
  rw [a4]
  refine (mxP_same (by omega) (by omega) (fun i x y => ?_)).symm
  rcases Int.lt_or_le i (fqP p m (q + 1)) with z | z
  · right; rw [hg i (sm i x z)]; exact Int.le_refl _
  · left
    intro w
    have w : rk p i = q := w
    have := (fqP_lt (p := p) (m := m) (q := q + 1) (j := i) (by omega) y).mpr (by omega)
    omega
end MXS
/-- term number of token j -/
noncomputable def tmX (σ : Sto) (f : Int) (l : TL) (j : Int) : Int := ls (tQ σ f (l.2.2.1 j) 0 (l.2.1 j)) (σ.I 18 7)
theorem tmX_eq {σ τ : Sto} {f j : Int} {l : TL} (hT : TLX τ 10 l) (h0 : 0 ≤ j) (h1 : j < l.1) (e : ∀ c i, 18 ≤ c → c ≤ 22 → τ.I c i = σ.I c i) : ls (tQ τ f (τ.I 11) (20 * j) (min (τ.I 12 j) 20)) (τ.I 18 7) = tmX σ f l j := by
  obtain ⟨⟨q1, q2, q3⟩, _, q7⟩ := hT.2.2 j h0 h1
  unfold tmX
  rw [e 18 7 (by decide) (by decide)]
  congr 1
  funext t
  have q1 : τ.I 12 j = l.2.1 j := q1
  rw [q1, show min (l.2.1 j) 20 = l.2.1 j by omega]
  unfold tQ
  rw [e 20 t (by decide) (by decide), e 21 t (by decide) (by decide)]
  refine propext (and_congr_right (fun _ => ?_))
  constructor
  · intro w k a b
    have y : τ.I 19 (20 * t + k) = τ.I 11 (20 * j + k) := w k a b
    show σ.I 19 (20 * t + k) = l.2.2.1 j (0 + k)
    rw [Int.zero_add, ← e 19 _ (by decide) (by decide)]; exact y.trans (q7 k a b)
  · intro w k a b
    have y : σ.I 19 (20 * t + k) = l.2.2.1 j (0 + k) := w k a b
    rw [Int.zero_add] at y
    show τ.I 19 (20 * t + k) = τ.I 11 (20 * j + k)
    rw [e 19 _ (by decide) (by decide)]; exact y.trans (q7 k a b).symm
/-- terms of one place are not the same -/
theorem tmX_inj {σ : Sto} {f i j : Int} {l : TL} {a b c : Int} (h : TKI l a b c) (h0 : 0 ≤ i) (hij : i < j) (hj : j < l.1) (hp : l.2.2.2.2.2 i = l.2.2.2.2.2 j) (ht : 0 ≤ tmX σ f l i) : tmX σ f l i ≠ tmX σ f l j := by
  intro e
  have q := (h.2.2 i j h0 hij hj).2.1 hp
  have w1 : tQ σ f (l.2.2.1 i) 0 (l.2.1 i) (ls (tQ σ f (l.2.2.1 i) 0 (l.2.1 i)) (σ.I 18 7)) := by
    rcases ls_in (tQ σ f (l.2.2.1 i) 0 (l.2.1 i)) (σ.I 18 7) with z | z
    · unfold tmX at ht; omega
    · exact z.2.2
  have w2 : tQ σ f (l.2.2.1 j) 0 (l.2.1 j) (ls (tQ σ f (l.2.2.1 j) 0 (l.2.1 j)) (σ.I 18 7)) := by
    rcases ls_in (tQ σ f (l.2.2.1 j) 0 (l.2.1 j)) (σ.I 18 7) with z | z
    · unfold tmX at ht e; omega
    · exact z.2.2
  have e' : ls (tQ σ f (l.2.2.1 i) 0 (l.2.1 i)) (σ.I 18 7) = ls (tQ σ f (l.2.2.1 j) 0 (l.2.1 j)) (σ.I 18 7) := e
  rw [← e'] at w2
  have s : l.2.1 i = l.2.1 j := w1.1.2.symm.trans w2.1.2
  refine q.2 ⟨s, fun k x y => ?_⟩
  exact (w1.2 k x (by omega)).symm.trans (w2.2 k x y)
end
section
/-! contracts: printed by tools/mk.py out of s98k_txq.py -/
set_option maxRecDepth 100000
set_option maxHeartbeats 1200000
/-! how often the terms of a first place are found: each value is looked at once -/
section LSM
theorem smP_or {p q : Int → Prop} {g : Int → Int} (hd : ∀ v, ¬ (p v ∧ q v)) : ∀ (n : Nat), smP (fun v => p v ∨ q v) g (n : Int) = smP p g (n : Int) + smP q g (n : Int) := by
  intro n
  induction n with
  | zero => rw [smP_0 _ _ _ (show ((0 : Nat) : Int) ≤ 0 by omega), smP_0 _ _ _ (show ((0 : Nat) : Int) ≤ 0 by omega), smP_0 _ _ _ (show ((0 : Nat) : Int) ≤ 0 by omega)]; rfl
  | succ n ih =>
    rcases Classical.em (p (n : Int)) with a | a
    · have b : ¬ q (n : Int) := fun z => hd _ ⟨a, z⟩
      rw [smP_t (fun v => p v ∨ q v) g (n : Int) ((n + 1 : Nat) : Int) (by omega) (by omega) (Or.inl a), smP_t p g (n : Int) ((n + 1 : Nat) : Int) (by omega) (by omega) a, smP_f q g (n : Int) ((n + 1 : Nat) : Int) (by omega) (by omega) b, ih]; omega
    · rcases Classical.em (q (n : Int)) with b | b
      · rw [smP_t (fun v => p v ∨ q v) g (n : Int) ((n + 1 : Nat) : Int) (by omega) (by omega) (Or.inr b), smP_f p g (n : Int) ((n + 1 : Nat) : Int) (by omega) (by omega) a, smP_t q g (n : Int) ((n + 1 : Nat) : Int) (by omega) (by omega) b, ih]; omega
      · rw [smP_f (fun v => p v ∨ q v) g (n : Int) ((n + 1 : Nat) : Int) (by omega) (by omega) (fun z => z.elim a b), smP_f p g (n : Int) ((n + 1 : Nat) : Int) (by omega) (by omega) a, smP_f q g (n : Int) ((n + 1 : Nat) : Int) (by omega) (by omega) b, ih]
theorem smP_pq {p q : Int → Prop} {g : Int → Int} (h : ∀ v, p v ↔ q v) (n : Int) : smP p g n = smP q g n := by
  have e : p = q := funext fun v => propext (h v)
  rw [e]
theorem smP_cn {p q : Int → Prop} {g : Int → Int} {b : Int} (hp : ∀ v, p v → q v) (hg : ∀ v, 0 ≤ g v ∧ g v ≤ b) : ∀ (n : Nat), 0 ≤ smP p g (n : Int) ∧ smP p g (n : Int) ≤ b * cn q (n : Int) := by
  intro n
  induction n with
  | zero => rw [smP_0 _ _ _ (show ((0 : Nat) : Int) ≤ 0 by omega), cn_0 _ _ (show ((0 : Nat) : Int) ≤ 0 by omega)]; omega
  | succ n ih =>
    have e := cn_s q (n : Int) ((n + 1 : Nat) : Int) (by omega) (by omega)
    have w := hg (n : Int)
    have m : b * (cn q (n : Int) + zb (q (n : Int))) = b * cn q (n : Int) + b * zb (q (n : Int)) := Int.mul_add _ _ _
    rw [e, m]
    rcases Classical.em (p (n : Int)) with a | a
    · rw [smP_t p g (n : Int) ((n + 1 : Nat) : Int) (by omega) (by omega) a, zb_t (hp _ a)]; omega
    · rw [smP_f p g (n : Int) ((n + 1 : Nat) : Int) (by omega) (by omega) a]
      have z := zb_cs (q (n : Int))
      rcases z with z | z
      · rw [z.2]; omega
      · rw [z.2]; omega
variable {σ : Sto} {o : Nat} {n V k : Int} {P : Int → Int}
/-- objects have 24 values at most, the draft too -/
def VOC (σ : Sto) (V : Int) : Prop := (∀ b, cn (fun v => σ.I 27 v = b) V ≤ 24) ∧ σ.I 0 20 - σ.I 0 31 ≤ 24
theorem lfS_sum {N : Int} (hd : ∀ i j, 0 ≤ i → i < j → j < N → P i ≠ P j) (hV : 0 ≤ V) (hc : VOC σ V) (hD : 0 ≤ σ.I 0 20 - σ.I 0 31) (h0 : P 0 = σ.I (o + 28) (σ.I (o + 27) (σ.I (o + 24) n))) {m : Int} (m0 : 0 ≤ m) (mN : m ≤ N) : 0 ≤ smP (fun _ => True) (fun j => lfS σ o n (P j) V k) m ∧ smP (fun _ => True) (fun j => lfS σ o n (P j) V k) m ≤ 12000 := by
  by_cases al : σ.I (o + 15) 8 = 0
  · -- P beyond N does not matter
    obtain ⟨w, rfl⟩ := Int.eq_ofNat_of_zero_le m0
    have e1 : ∀ q : Nat, (q : Int) ≤ N → smP (fun _ => True) (fun j => lfS σ o n (P j) V k) (q : Int) = smP (fun v => (∃ j, 0 ≤ j ∧ j < (q : Int) ∧ lkC σ o n (P j) v) ∧ σ.I 27 v = k) (mtX σ o n) V := by
      obtain ⟨u, rfl⟩ := Int.eq_ofNat_of_zero_le hV
      intro q
      induction q with
      | zero =>
        intro _
        rw [smP_0 _ _ _ (show ((0 : Nat) : Int) ≤ 0 by omega)]
        refine (smP_z (by omega) (fun v a b c => ?_)).symm
        obtain ⟨⟨j, j0, j1, _⟩, _⟩ := c
        omega
      | succ q ih =>
        intro hq
        rw [smP_t (fun _ => True) (fun j => lfS σ o n (P j) u k) (q : Int) ((q + 1 : Nat) : Int) (by omega) (by omega) trivial, ih (by omega)]
        have e : lfS σ o n (P (q : Int)) u k = smP (fun v => lkC σ o n (P (q : Int)) v ∧ σ.I 27 v = k) (mtX σ o n) u := if_pos al
        rw [e, ← smP_or (fun v z => by
          obtain ⟨⟨⟨j, j0, j1, j2⟩, _⟩, ⟨y, _⟩⟩ := z
          exact hd j (q : Int) j0 j1 (by omega) (j2.2.2.symm.trans y.2.2)) u]
        refine smP_pq (fun v => ?_) _
        constructor
        · rintro (⟨⟨j, j0, j1, j2⟩, c⟩ | ⟨a, c⟩)
          · exact ⟨⟨j, j0, by omega, j2⟩, c⟩
          · exact ⟨⟨(q : Int), by omega, by omega, a⟩, c⟩
        · rintro ⟨⟨j, j0, j1, j2⟩, c⟩
          rcases (show j < (q : Int) ∨ j = (q : Int) by omega) with z | z
          · exact Or.inl ⟨⟨j, j0, z, j2⟩, c⟩
          · rw [z] at j2; exact Or.inr ⟨j2, c⟩
    rw [e1 w mN]
    obtain ⟨u, rfl⟩ := Int.eq_ofNat_of_zero_le hV
    have q := smP_cn (p := fun v => (∃ j, 0 ≤ j ∧ j < (w : Int) ∧ lkC σ o n (P j) v) ∧ σ.I 27 v = k) (q := fun v => σ.I 27 v = k) (g := mtX σ o n) (b := 500) (fun v z => z.2) (fun v => mtX_nn) u
    have c := hc.1 k
    omega
  · have da := smP_bd (p := fun j => σ.I 26 (σ.I 0 31 + j) = σ.I (o + 8) n) (g := fun j => mtX σ o n (σ.I 0 31 + j)) (b := 500) hD (fun j => mtX_nn) (by omega)
    have dn : daS σ o n (σ.I 0 20 - σ.I 0 31) = smP (fun j => σ.I 26 (σ.I 0 31 + j) = σ.I (o + 8) n) (fun j => mtX σ o n (σ.I 0 31 + j)) (σ.I 0 20 - σ.I 0 31) := rfl
    have c := hc.2
    have key : ∀ q : Nat, (q : Int) ≤ N → smP (fun _ => True) (fun j => lfS σ o n (P j) V k) (q : Int) = if 0 < (q : Int) ∧ k = σ.I 0 39 then daS σ o n (σ.I 0 20 - σ.I 0 31) else 0 := by
      intro q
      induction q with
      | zero => intro _; rw [smP_0 _ _ _ (show ((0 : Nat) : Int) ≤ 0 by omega), if_neg (fun z => by have := z.1; omega)]
      | succ q ih =>
        intro hq
        rw [smP_t (fun _ => True) (fun j => lfS σ o n (P j) V k) (q : Int) ((q + 1 : Nat) : Int) (by omega) (by omega) trivial, ih (by omega)]
        have e : lfS σ o n (P (q : Int)) V k = if k = σ.I 0 39 ∧ P (q : Int) = σ.I (o + 28) (σ.I (o + 27) (σ.I (o + 24) n)) then daS σ o n (σ.I 0 20 - σ.I 0 31) else 0 := if_neg al
        rw [e]
        by_cases y : k = σ.I 0 39
        · by_cases z : q = 0
          · subst z
            rw [if_neg (fun w => by have := w.1; omega), if_pos ⟨y, h0⟩, if_pos ⟨by omega, y⟩]; omega
          · have ne : ¬ P (q : Int) = σ.I (o + 28) (σ.I (o + 27) (σ.I (o + 24) n)) := fun w => hd 0 (q : Int) (Int.le_refl _) (by omega) (by omega) (h0.trans w.symm)
            rw [if_pos ⟨by omega, y⟩, if_neg (fun w => ne w.2), if_pos ⟨by omega, y⟩]; omega
        · rw [if_neg (fun w => y w.2), if_neg (fun w => y w.1), if_neg (fun w => y w.2)]; rfl
    have q := key m.toNat (by omega)
    rw [show ((m.toNat : Nat) : Int) = m by omega] at q
    rw [q]
    split <;> omega
end LSM
/-! what is written at a token of a text -/
section TXW
variable {τ s1 s2 s3 s4 : Sto} {o : Nat} {n t v : Int}
theorem tx_found (e1 : s1 = τ.wI (o + 28) (τ.I o 13) t) (e2 : s2 = s1.wI o 13 (s1.I o 13 + 1)) (e3 : s3 = s2.wI (o + 27) (s2.I o 12) (s2.I o 13)) :
    (s3.I o 13 = τ.I o 13 + 1 ∧ s3.I o 12 = τ.I o 12 ∧ s3.I (o + 28) (τ.I o 13) = t) ∧ (∀ i, i ≠ τ.I o 12 → s3.I (o + 27) i = τ.I (o + 27) i) ∧ (∀ i, i ≠ τ.I o 13 → s3.I (o + 28) i = τ.I (o + 28) i) ∧ ∀ c i, ¬ (c = o ∨ c = o + 27 ∨ c = o + 28) → s3.I c i = τ.I c i := by
  have a12 : s2.I o 12 = τ.I o 12 := by rw [e2, I_nj _ _ _ _ (by decide), e1, I_ne _ _ _ _ (by omega)]
  have a13 : s2.I o 13 = τ.I o 13 + 1 := by rw [e2, I_same, e1, I_ne _ _ _ _ (by omega)]
  refine ⟨⟨by rw [e3, I_ne _ _ _ _ (by omega)]; exact a13, by rw [e3, I_ne _ _ _ _ (by omega)]; exact a12, by rw [e3, I_ne _ _ _ _ (by omega), e2, I_ne _ _ _ _ (by omega), e1, I_same]⟩, fun i q => by rw [e3, a12, I_nj _ _ _ _ q, e2, I_ne _ _ _ _ (by omega), e1, I_ne _ _ _ _ (by omega)], fun i q => by rw [e3, I_ne _ _ _ _ (by omega), e2, I_ne _ _ _ _ (by omega), e1, I_nj _ _ _ _ q], fun c i q => by rw [e3, I_ne _ _ _ _ (by omega), e2, I_ne _ _ _ _ (by omega), e1, I_ne _ _ _ _ (by omega)]⟩
theorem tx_place (e1 : s1 = τ.wI (o + 26) (τ.I o 12) v) (e2 : s2 = s1.wI (o + 27) (s1.I o 12) (s1.I o 13)) (e3 : s3 = s2.wI o 12 (s2.I o 12 + 1)) (e4 : s4 = s3.wI (o + 25) n (s3.I (o + 25) n + 1)) :
    (s4.I o 13 = τ.I o 13 ∧ s4.I o 12 = τ.I o 12 + 1 ∧ s4.I (o + 25) n = τ.I (o + 25) n + 1 ∧ s4.I (o + 26) (τ.I o 12) = v ∧ s4.I (o + 27) (τ.I o 12) = τ.I o 13) ∧ (∀ i, i ≠ τ.I o 12 → s4.I (o + 26) i = τ.I (o + 26) i ∧ s4.I (o + 27) i = τ.I (o + 27) i) ∧ ∀ c i, ¬ (c = o ∨ (o + 25 ≤ c ∧ c ≤ o + 27)) → s4.I c i = τ.I c i := by
  have a12 : s1.I o 12 = τ.I o 12 := by rw [e1, I_ne _ _ _ _ (by omega)]
  have a13 : s1.I o 13 = τ.I o 13 := by rw [e1, I_ne _ _ _ _ (by omega)]
  have b12 : s2.I o 12 = τ.I o 12 := by rw [e2, I_ne _ _ _ _ (by omega)]; exact a12
  have b13 : s2.I o 13 = τ.I o 13 := by rw [e2, I_ne _ _ _ _ (by omega)]; exact a13
  refine ⟨⟨by rw [e4, I_ne _ _ _ _ (by omega), e3, I_nj _ _ _ _ (by decide)]; exact b13, by rw [e4, I_ne _ _ _ _ (by omega), e3, I_same, b12], by rw [e4, I_same, e3, I_ne _ _ _ _ (by omega), e2, I_ne _ _ _ _ (by omega), e1, I_ne _ _ _ _ (by omega)], by rw [e4, I_ne _ _ _ _ (by omega), e3, I_ne _ _ _ _ (by omega), e2, I_ne _ _ _ _ (by omega), e1, I_same], by rw [e4, I_ne _ _ _ _ (by omega), e3, I_ne _ _ _ _ (by omega), e2, a12, I_same, a13]⟩, fun i q => ⟨by rw [e4, I_ne _ _ _ _ (by omega), e3, I_ne _ _ _ _ (by omega), e2, I_ne _ _ _ _ (by omega), e1, I_nj _ _ _ _ q], by rw [e4, I_ne _ _ _ _ (by omega), e3, I_ne _ _ _ _ (by omega), e2, a12, I_nj _ _ _ _ q, e1, I_ne _ _ _ _ (by omega)]⟩, fun c i q => by rw [e4, I_ne _ _ _ _ (by omega), e3, I_ne _ _ _ _ (by omega), e2, I_ne _ _ _ _ (by omega), e1, I_ne _ _ _ _ (by omega)]⟩
end TXW

theorem ARW_X {σ : Sto} {o : Nat} (h : ANB σ o) : ARW (anS σ o) 0 := by
  obtain ⟨_, h2, h3, h4⟩ := h
  refine ⟨by rw [an_gram]; omega, fun k k0 k1 => ?_⟩
  rw [an_syc] at k1
  rw [an_ysz k0]
  exact (h4 k k0 (by omega)).2
end
section
/-! contracts: printed by tools/mk.py out of s98l_enterM.py -/
set_option maxRecDepth 100000
set_option maxHeartbeats 1200000
/-! entering a version, as a user -/
noncomputable def wwM (σ : Sto) (v o : Int) : Int := zb (o < σ.I 555 52 ∧ inV (σ.I 594) (σ.I 592) (σ.I 593) v o)
def LDQ (σ ρ : Sto) (o1 : Nat) (b n : Int) : Prop := ChS wsQu σ ρ ∧ eM ρ = eQ σ o1 b n ∧ qR (eQ σ o1 b n) = .inr (ρ.I 555 80 - 1, psM ρ) ∧ QLD ρ
def WWS (σ ω : Sto) (v : Int) : Prop := RD σ ω (fun c i => if rg c i 601 0 601 then wwM σ v i else if rg c i 602 0 12 then 1 else σ.I c i)
/-- the root of the question matches -/
def hid (ρ : Sto) (o : Int) : Prop := 0 ≤ wV ρ (lsM ρ) (ρ.I 555 80 - 1) o
noncomputable def whI (σ ρ : Sto) (v o : Int) : Int := zb (wwM σ v o = 1 ∧ ¬ hid ρ o)
def WLD (σ τ : Sto) (v : Int) : Prop := (σ.I 555 61 = 0 ∨ σ.I 608 (σ.I 555 61) ≤ 0 → ∀ o, 0 ≤ o → o < 601 → τ.I 601 o = wwM σ v o) ∧ (σ.I 555 61 ≠ 0 → 0 < σ.I 608 (σ.I 555 61) → ∃ ω ρ, WWS σ ω v ∧ LDQ ω ρ 607 (400 * σ.I 555 61) (σ.I 608 (σ.I 555 61)) ∧ ∀ o, 0 ≤ o → o < 601 → τ.I 601 o = whI σ ρ v o)
def SEE (σ τ : Sto) (n : Int) : Prop := ∀ f, 0 ≤ f → f < n → τ.I 602 f = if σ.I 555 61 = 0 then 1 else if σ.I 600 (12 * σ.I 555 61 + f) = 0 then 1 else 0
def wsEn (c : Nat) (i : Int) : Prop := wsM c i ∨ wsQu c i ∨ c = 601 ∨ c = 602
/-- what is stored well -/
def BAS (σ : Sto) : Prop := AC σ ∧ OB σ 595 596 ∧ VT σ (σ.I 555 30) ∧ σ.I 555 30 ≤ 6000 ∧ bd_0_20 σ 587 24000 ∧ bd_0_499 σ 590 24000 ∧ bd_m1_599 σ 591 601 ∧ NB σ ∧ FAB σ
theorem BAS_e {σ τ : Sto} (h : BAS σ) (e : ∀ c i, (558 ≤ c ∧ c ≤ 564) ∨ (577 ≤ c ∧ c ≤ 597) ∨ (c = 555 ∧ (i = 30 ∨ i = 27)) → τ.I c i = σ.I c i) : BAS τ := by
  have k : ∀ c, (558 ≤ c ∧ c ≤ 564) ∨ (577 ≤ c ∧ c ≤ 597) → τ.I c = σ.I c := fun c q => funext fun i => e c i (by omega)
  have t : tcM τ = tcM σ := by funext v; unfold tcM; rw [k 582 (by omega)]
  obtain ⟨⟨a1, a2, a3, a4, a5, a6⟩, b, c, d, f, g, h, i, j⟩ := h
  refine ⟨⟨bd_0_1_eq a1 (k _ (by omega)), bd_0_2_eq a2 (k _ (by omega)), bd_0_5_eq a3 (k _ (by omega)), bd_0_20_eq a4 (k _ (by omega)), bd_0_20_eq a5 (k _ (by omega)), bd_0_20_eq a6 (k _ (by omega))⟩, ?_, ?_, ?_, bd_0_20_eq f (k _ (by omega)), bd_0_499_eq g (k _ (by omega)), bd_m1_599_eq h (k _ (by omega)), ?_, ?_⟩
  · unfold OB; rw [k 595 (by omega), k 596 (by omega)]; exact b
  · unfold VT; rw [t, k 582 (by omega), e 555 30 (by omega)]; exact c
  · rw [e 555 30 (by omega)]; exact d
  · unfold NB; rw [k 584 (by omega)]; exact i
  · unfold FAB; rw [k 578 (by omega), e 555 27 (by omega)]; exact j
/-- objects of a version have values that are there -/
def WOH (σ : Sto) (v : Int) : Prop := ∀ o, 0 ≤ o → o < 601 → wwM σ v o = 1 → σ.I 595 o + σ.I 596 o ≤ σ.I 555 30
def EN56 (σ τ : Sto) (v x : Int) : Prop := ∃ ω ρ, WWS σ ω v ∧ LDQ ω ρ 607 (400 * σ.I 555 61) (σ.I 608 (σ.I 555 61)) ∧ (∀ o, 0 ≤ o → o < 601 → τ.I 624 o = if 0 ≤ wV ρ (lsM ρ) (ρ.I 555 80 - 1) o then 1 else 0) ∧ ∀ o, 0 ≤ o → o < 601 → τ.I 601 o = if o < x then whI σ ρ v o else wwM σ v o
theorem EN56_s {σ τ υ : Sto} {v x b : Int} (h : EN56 σ τ v x) (h0 : 0 ≤ x) (h1 : x < 601) (e : υ = τ.wI 601 x b) (hb : (τ.I 601 x = 0 ∧ b = 0) ∨ (τ.I 601 x ≠ 0 ∧ τ.I 624 x ≠ 0 ∧ b = 0) ∨ (τ.I 601 x ≠ 0 ∧ τ.I 624 x = 0 ∧ b = 1)) : EN56 σ υ v (x + 1) := by
  obtain ⟨ω, ρ, a1, a2, a3, a4⟩ := h
  refine ⟨ω, ρ, a1, a2, fun o p q => by rw [e, I_ne _ _ _ _ (by decide)]; exact a3 o p q, fun o p q => ?_⟩
  rcases (show o = x ∨ o ≠ x by omega) with z | z
  · subst z
    rw [e, I_same, if_pos (by omega)]
    have m := a3 o p q
    have w := a4 o p q
    rw [if_neg (by omega)] at w
    have wz : wwM σ v o = 0 ∨ wwM σ v o = 1 := by have := zb_in (o < σ.I 555 52 ∧ inV (σ.I 594) (σ.I 592) (σ.I 593) v o); unfold wwM; omega
    unfold whI hid
    rcases hb with ⟨b1, b2⟩ | ⟨b1, b2, b3⟩ | ⟨b1, b2, b3⟩
    · rw [zb_f (fun y => by have := y.1; omega), b2]
    · rw [zb_f (fun y => by have y2 := y.2; rw [if_neg y2] at m; exact b2 m), b3]
    · rw [zb_t ⟨by omega, fun y => by rw [if_pos y] at m; omega⟩, b3]
  · rw [e, I_nj _ _ _ _ z, a4 o p q]
    by_cases y : o < x
    · rw [if_pos y, if_pos (by omega)]
    · rw [if_neg y, if_neg (by omega)]
theorem EN56_b {σ τ : Sto} {v x o : Int} (h : EN56 σ τ v x) (h0 : 0 ≤ o) (h1 : o < 601) : 0 ≤ τ.I 601 o ∧ τ.I 601 o ≤ 1 := by
  obtain ⟨ω, ρ, a1, a2, a3, a4⟩ := h
  rw [a4 o h0 h1]
  have z1 := zb_in (wwM σ v o = 1 ∧ ¬ hid ρ o)
  have z2 := zb_in (o < σ.I 555 52 ∧ inV (σ.I 594) (σ.I 592) (σ.I 593) v o)
  split
  · unfold whI; omega
  · unfold wwM; omega
theorem EN56_e {σ τ : Sto} {v x : Int} (h : EN56 σ τ v x) (hx : σ.I 555 52 ≤ x) (h1 : σ.I 555 61 ≠ 0) (h2 : 0 < σ.I 608 (σ.I 555 61)) : WLD σ τ v := by
  obtain ⟨ω, ρ, a1, a2, a3, a4⟩ := h
  refine ⟨fun z => by omega, fun _ _ => ⟨ω, ρ, a1, a2, fun o p q => ?_⟩⟩
  rw [a4 o p q]
  split
  · rfl
  · have e : wwM σ v o = 0 := zb_f (fun z => by have := z.1; omega)
    unfold whI
    rw [zb_f (fun z => by have := z.1; omega), e]
theorem WLD_fr {σ τ υ : Sto} {v : Int} (h : WLD σ τ v) (e : ∀ o, 0 ≤ o → o < 601 → υ.I 601 o = τ.I 601 o) : WLD σ υ v := by
  refine ⟨fun z o p q => by rw [e o p q]; exact h.1 z o p q, fun a b => ?_⟩
  obtain ⟨ω, ρ, a1, a2, a3⟩ := h.2 a b
  exact ⟨ω, ρ, a1, a2, fun o p q => by rw [e o p q]; exact a3 o p q⟩
theorem LDQ_mk {σ ρ : Sto} {o1 : Nat} {b n : Int} (k : KQu (σ.wR 555 74 (some o1)) ρ) (h1 : eM ρ = eQ σ o1 b n) (h2 : qok (eQ σ o1 b n) = 1 → qR (eQ σ o1 b n) = .inr (ρ.I 555 80 - 1, psM ρ) ∧ PO (eQ σ o1 b n) s00 (psM ρ) (ρ.I 555 80 - 1) (tb 0) ∧ ρ.I 555 76 = n ∧ ρ.I 555 78 = 0) (h3 : SRC ρ) (ok : qok (eQ σ o1 b n) = 1) (hf : FAB ρ) : LDQ σ ρ o1 b n := by
  obtain ⟨a, c, _⟩ := h2 ok
  rw [← h1] at c
  exact ⟨ChS.w k, h1, a, QLD_mk h3 hf c⟩

theorem WKB_c {σ τ : Sto} (h : WKB σ) (e : ∀ c i, (565 ≤ c ∧ c ≤ 576) ∨ (621 ≤ c ∧ c ≤ 636) → τ.I c i = σ.I c i) : WKB τ := by
  obtain ⟨d1, d2, d3, d4, d5, d6, d7⟩ := h
  have k : ∀ c, (565 ≤ c ∧ c ≤ 576) ∨ (621 ≤ c ∧ c ≤ 636) → τ.I c = σ.I c := fun c q => funext fun i => e c i q
  exact ⟨bd_m1_15_eq d1 (k _ (by decide)), bd_0_20_eq d2 (k _ (by decide)), bd_0_15_eq d3 (k _ (by decide)), bd_0_20_eq d4 (k _ (by decide)), bd_0_500_eq d5 (k _ (by decide)), bd_0_1000000000000000_eq d6 (k _ (by decide)), bd_0_1_eq d7 (k _ (by decide))⟩

theorem WKB_k2 {σ τ : Sto} {lf : Int → TL} {x : Int} (h : WKN σ τ lf x) : WKB τ := h.2.2

theorem sp_X9_enter {E : XE} {d : Nat} {σ : Sto} {x1 : Int} (hd : 510 ≤ d) (hL : Lay σ)  (p0 : 0 ≤ σ.I 555 52 ∧ σ.I 555 52 ≤ 600) (p1 : inR x1) (p2 : 0 ≤ σ.I 555 61 ∧ σ.I 555 61 < 4) (p3 : 0 ≤ σ.I 608 (σ.I 555 61) ∧ σ.I 608 (σ.I 555 61) ≤ 400) (p4 : 0 ≤ σ.I 555 27 ∧ σ.I 555 27 ≤ 12) (p5 : BAS σ) (p6 : WKB σ) (p7 : WOH σ x1) (p8 : σ.I 555 61 ≠ 0 → 0 < σ.I 608 (σ.I 555 61) → qok (eQ σ 607 (400 * σ.I 555 61) (σ.I 608 (σ.I 555 61))) = 1) : CC E mX9_enter d [aO 555, aI (x1)] σ (RV (fun τ => (WLD σ τ x1) ∧ (SEE σ τ 12) ∧ (WKB τ) ∧ (ChS wsEn σ τ))) := by sorry
end
section
/-! contracts: printed by tools/mk.py out of s98m_srchM.py -/
set_option maxRecDepth 100000
set_option maxHeartbeats 1200000
/-! the model's hits -/
theorem bfM_sto {P : Int → Prop} {K S sc : Int → Int} {sd b : Int} (hK : ∀ x, P x → K x = 0 ∨ K x = 1) : STO P (fun x y => bfM K S sd x (sc x) y (sc y) b) := by
  refine ⟨fun x hx h => ?_, fun x y z hx hy hz h1 h2 => ?_, fun x y hx hy hn => ?_⟩
  · unfold bfM at h
    omega
  · have k1 := hK x hx
    have k2 := hK y hy
    have k3 := hK z hz
    unfold bfM at h1 h2 ⊢
    by_cases c : b = 1
    · rcases k1 with k1 | k1 <;> rcases k2 with k2 | k2 <;> rcases k3 with k3 | k3 <;> omega
    · simp only [c, false_and, not_false_eq_true, true_and, false_or] at h1 h2 ⊢
      omega
  · have k1 := hK x hx
    have k2 := hK y hy
    unfold bfM
    by_cases c : b = 1
    · rcases k1 with k1 | k1 <;> rcases k2 with k2 | k2 <;> omega
    · simp only [c, false_and, not_false_eq_true, true_and, false_or]
      omega
noncomputable def kyD (β : Sto) (o : Int) : Int := (kyM β o (if 0 ≤ β.I 555 131 then β.I 596 o else 0)).1
noncomputable def kyS (β : Sto) (o : Int) : Int := (kyM β o (if 0 ≤ β.I 555 131 then β.I 596 o else 0)).2
def ltH (β : Sto) (x y : Int) : Prop := bfM (kyD β) (kyS β) (β.I 555 132) x (β.I 625 x) y (β.I 625 y) (if 0 ≤ β.I 555 131 then 1 else 0)
def selH (β : Sto) (o : Int) : Prop := β.I 601 o = 1 ∧ β.I 624 o = 1
def wsHi (c : Nat) (i : Int) : Prop := c = 637 ∨ c = 638 ∨ c = 651 ∨ c = 652 ∨ (c = 555 ∧ i = 115)
/-- the hits among the first x objects -/
def HTI (β τ : Sto) (x : Int) : Prop := Ch wsHi β τ ∧ (0 ≤ τ.I 555 115 ∧ τ.I 555 115 ≤ x) ∧ TopK (fun o => (0 ≤ o ∧ o < x) ∧ selH β o) (ltH β) 600 (τ.I 555 115) (τ.I 637) ∧ (∀ i, 0 ≤ i → i < τ.I 555 115 → τ.I 638 i = β.I 625 (τ.I 637 i)) ∧ (∀ o, 0 ≤ o → o < x → selH β o → τ.I 652 o = kyD β o ∧ τ.I 651 o = kyS β o) ∧ (∀ o, x ≤ o → τ.I 651 o = β.I 651 o) ∧ bd_0_600 τ 637 600
theorem HTI_0 {β : Sto} (h : β.I 555 115 = 0) (hb : bd_0_600 β 637 600) : HTI β β 0 := ⟨Ch.rf, by omega, by rw [h]; exact TopK_0 (fun x z => by have := z.1; omega) (by omega), fun i a b => by omega, fun o a b => by omega, fun _ _ => rfl, hb⟩
theorem HTI_no {β τ : Sto} {x : Int} (h : HTI β τ x) (hs : ¬ selH β x) : HTI β τ (x + 1) := by
  obtain ⟨a, b, c, d, e, f, g⟩ := h
  refine ⟨a, by omega, TopK_cg c (fun y => ?_) (fun _ _ _ _ => Iff.rfl) (fun _ _ _ => rfl), d, fun o x0 x1 q => ?_, fun o q => f o (by omega), g⟩
  · constructor
    · rintro ⟨z1, z2⟩
      refine ⟨⟨z1.1, ?_⟩, z2⟩
      rcases (show y < x ∨ y = x by omega) with w | w
      · exact w
      · rw [w] at z2; contradiction
    · rintro ⟨z1, z2⟩; exact ⟨⟨z1.1, by omega⟩, z2⟩
  · rcases (show o < x ∨ o = x by omega) with w | w
    · exact e o x0 w q
    · rw [w] at q; contradiction
theorem kyM_e {β τ : Sto} (h : Ch wsHi β τ) {o n : Int} (hk : τ.I 651 o = β.I 651 o) : kyM τ o n = kyM β o n := by
  have c : ∀ c i, ¬ wsHi c i → τ.I c i = β.I c i := h.2
  have e1 : τ.I 579 = β.I 579 := funext fun i => c _ _ (by unfold wsHi; omega)
  have e2 : τ.I 602 = β.I 602 := funext fun i => c _ _ (by unfold wsHi; omega)
  have e3 : τ.I 595 = β.I 595 := funext fun i => c _ _ (by unfold wsHi; omega)
  have e4 : τ.I 583 = β.I 583 := funext fun i => c _ _ (by unfold wsHi; omega)
  have e5 : τ.I 555 131 = β.I 555 131 := c _ _ (by unfold wsHi; omega)
  have e6 : τ.I 555 132 = β.I 555 132 := c _ _ (by unfold wsHi; omega)
  unfold kyM
  rw [hk, e6, e4, e3, e5]
  congr 1
  funext j
  unfold kpM mV
  rw [e1, e2, e3]
theorem bfM_cg {K S K' S' : Int → Int} {sd o s p t b : Int} (h1 : K' o = K o ∧ S' o = S o) (h2 : K' p = K p ∧ S' p = S p) : bfM K' S' sd o s p t b ↔ bfM K S sd o s p t b := by
  unfold bfM; rw [h1.1, h1.2, h2.1, h2.2]
theorem HTI_add {β τ σ1 υ : Sto} {x b : Int} (h : HTI β τ x) (h0 : 0 ≤ x) (h1 : x < 600) (hs : selH β x) (hb : b = if 0 ≤ β.I 555 131 then 1 else 0)
    (e1 : σ1.I = fun c i => if at2 c i 652 x then (kyM τ x (if 0 ≤ τ.I 555 131 then τ.I 596 x else 0)).1 else if at2 c i 651 x then (kyM τ x (if 0 ≤ τ.I 555 131 then τ.I 596 x else 0)).2 else τ.I c i)
    (e2 : υ.I = fun c i => if rg c i 637 (ip (fun j => bfM (σ1.I 652) (σ1.I 651) (σ1.I 555 132) x (σ1.I 625 x) (σ1.I 637 j) (σ1.I 638 j) b) (σ1.I 555 115) + 1) (σ1.I 555 115 + 1) ∨ rg c i 638 (ip (fun j => bfM (σ1.I 652) (σ1.I 651) (σ1.I 555 132) x (σ1.I 625 x) (σ1.I 637 j) (σ1.I 638 j) b) (σ1.I 555 115) + 1) (σ1.I 555 115 + 1) then σ1.I c (i - 1)
      else if at2 c i 637 (ip (fun j => bfM (σ1.I 652) (σ1.I 651) (σ1.I 555 132) x (σ1.I 625 x) (σ1.I 637 j) (σ1.I 638 j) b) (σ1.I 555 115)) then x else if at2 c i 638 (ip (fun j => bfM (σ1.I 652) (σ1.I 651) (σ1.I 555 132) x (σ1.I 625 x) (σ1.I 637 j) (σ1.I 638 j) b) (σ1.I 555 115)) then σ1.I 625 x else if at2 c i 555 115 then σ1.I 555 115 + 1 else σ1.I c i)
    (r1 : σ1.R = τ.R ∧ σ1.sh = τ.sh ∧ σ1.n = τ.n) (r2 : υ.R = σ1.R ∧ υ.sh = σ1.sh ∧ υ.n = σ1.n) : HTI β υ (x + 1) := by
  obtain ⟨ha, hc, hT, hd, he, hf, hg⟩ := h
  have cc : ∀ c i, ¬ wsHi c i → τ.I c i = β.I c i := ha.2
  have o1 : ∀ c i, c ≠ 652 → c ≠ 651 → σ1.I c i = τ.I c i := fun c i p q => by
    rw [e1]; show (if at2 c i _ _ then _ else if at2 c i _ _ then _ else _) = _
    rw [if_neg (fun z => p z.1), if_neg (fun z => q z.1)]
  have sf : τ.I 555 131 = β.I 555 131 := cc _ _ (by unfold wsHi; omega)
  have ct : τ.I 596 x = β.I 596 x := cc _ _ (by unfold wsHi; omega)
  have kd : σ1.I 652 x = kyD β x := by
    rw [e1]; show (if at2 _ _ _ _ then _ else _) = _
    rw [if_pos ⟨rfl, rfl⟩, sf, ct, kyM_e ha (hf x (Int.le_refl _))]; rfl
  have ks : σ1.I 651 x = kyS β x := by
    rw [e1]; show (if at2 _ _ _ _ then _ else if at2 _ _ _ _ then _ else _) = _
    rw [if_neg (fun z => absurd z.1 (by decide)), if_pos ⟨rfl, rfl⟩, sf, ct, kyM_e ha (hf x (Int.le_refl _))]; rfl
  have kn : ∀ o, o ≠ x → σ1.I 652 o = τ.I 652 o ∧ σ1.I 651 o = τ.I 651 o := fun o q => by
    rw [e1]
    refine ⟨?_, ?_⟩
    · show (if at2 _ _ _ _ then _ else if at2 _ _ _ _ then _ else _) = _
      rw [if_neg (fun z => q z.2), if_neg (fun z => absurd z.1 (by decide))]
    · show (if at2 _ _ _ _ then _ else if at2 _ _ _ _ then _ else _) = _
      rw [if_neg (fun z => absurd z.1 (by decide)), if_neg (fun z => q z.2)]
  have hct : σ1.I 555 115 = τ.I 555 115 := o1 _ _ (by decide) (by decide)
  have hsc : σ1.I 625 x = β.I 625 x := (o1 _ _ (by decide) (by decide)).trans (cc _ _ (by unfold wsHi; omega))
  have hsd : σ1.I 555 132 = β.I 555 132 := (o1 _ _ (by decide) (by decide)).trans (cc _ _ (by unfold wsHi; omega))
  have hhi : ∀ i, σ1.I 637 i = τ.I 637 i := fun i => o1 _ _ (by decide) (by decide)
  have hhs : ∀ i, σ1.I 638 i = τ.I 638 i := fun i => o1 _ _ (by decide) (by decide)
  obtain ⟨p, hp⟩ : ∃ p, p = ip (fun j => bfM (σ1.I 652) (σ1.I 651) (σ1.I 555 132) x (σ1.I 625 x) (σ1.I 637 j) (σ1.I 638 j) b) (σ1.I 555 115) := ⟨_, rfl⟩
  have ipb := ip_b (fun j => bfM (σ1.I 652) (σ1.I 651) (σ1.I 555 132) x (σ1.I 625 x) (σ1.I 637 j) (σ1.I 638 j) b) (σ1.I 555 115) (by omega)
  rw [← hp] at ipb e2
  rw [hct] at ipb e2
  have hq : ∀ j, 0 ≤ j → j < τ.I 555 115 → (bfM (σ1.I 652) (σ1.I 651) (σ1.I 555 132) x (σ1.I 625 x) (σ1.I 637 j) (σ1.I 638 j) b ↔ ltH β x (τ.I 637 j)) := fun j j0 j1 => by
    have s := hT.2.1 j j0 j1
    have k := he _ s.1.1 s.1.2 s.2
    have n := kn (τ.I 637 j) (by have := s.1; omega)
    rw [hsd, hsc, hhi j, hhs j, hd j j0 j1, hb]
    exact bfM_cg ⟨kd, ks⟩ ⟨n.1.trans k.1, n.2.trans k.2⟩
  have hn1 : υ.I 555 115 = τ.I 555 115 + 1 := by
    rw [e2]; show (if rg _ _ _ _ _ ∨ rg _ _ _ _ _ then _ else if at2 _ _ _ _ then _ else if at2 _ _ _ _ then _ else if at2 _ _ _ _ then _ else _) = _
    rw [if_neg (fun z => z.elim (fun y => absurd y.1 (by decide)) (fun y => absurd y.1 (by decide))), if_neg (fun z => absurd z.1 (by decide)), if_neg (fun z => absurd z.1 (by decide)), if_pos ⟨rfl, rfl⟩]
  have hh : ∀ i, 0 ≤ i → i < τ.I 555 115 + 1 → υ.I 637 i = if i < p then τ.I 637 i else if i = p then x else τ.I 637 (i - 1) := fun i i0 i1 => by
    rw [e2]; show (if rg _ _ _ _ _ ∨ rg _ _ _ _ _ then _ else if at2 _ _ _ _ then _ else if at2 _ _ _ _ then _ else if at2 _ _ _ _ then _ else _) = _
    rcases (show i < p ∨ i = p ∨ p < i by omega) with z | z | z
    · rw [if_pos z, if_neg (fun y => y.elim (fun w => by have := w.2.1; omega) (fun w => absurd w.1 (by decide))), if_neg (fun y => by have := y.2; omega), if_neg (fun y => absurd y.1 (by decide)), if_neg (fun y => absurd y.1 (by decide)), hhi]
    · rw [if_neg (show ¬ i < p by omega), if_pos z]
      refine (if_neg (fun y => y.elim (fun w => by have := w.2.1; omega) (fun w => absurd w.1 (by decide)))).trans ?_
      exact if_pos ⟨rfl, z⟩
    · rw [if_neg (show ¬ i < p by omega), if_neg (show ¬ i = p by omega)]
      refine (if_pos (Or.inl ⟨rfl, by omega, by omega⟩)).trans ?_
      exact hhi _
  have hz : ∀ i, 0 ≤ i → i < τ.I 555 115 + 1 → υ.I 638 i = if i < p then τ.I 638 i else if i = p then β.I 625 x else τ.I 638 (i - 1) := fun i i0 i1 => by
    rw [e2]; show (if rg _ _ _ _ _ ∨ rg _ _ _ _ _ then _ else if at2 _ _ _ _ then _ else if at2 _ _ _ _ then _ else if at2 _ _ _ _ then _ else _) = _
    rcases (show i < p ∨ i = p ∨ p < i by omega) with z | z | z
    · rw [if_pos z, if_neg (fun y => y.elim (fun w => absurd w.1 (by decide)) (fun w => by have := w.2.1; omega)), if_neg (fun y => absurd y.1 (by decide)), if_neg (fun y => by have := y.2; omega), if_neg (fun y => absurd y.1 (by decide)), hhs]
    · rw [if_neg (show ¬ i < p by omega), if_pos z]
      refine (if_neg (fun y => y.elim (fun w => absurd w.1 (by decide)) (fun w => by have := w.2.1; omega))).trans ?_
      refine (if_neg (fun y => absurd y.1 (by decide))).trans ?_
      refine (if_pos ⟨rfl, z⟩).trans ?_
      exact hsc
    · rw [if_neg (show ¬ i < p by omega), if_neg (show ¬ i = p by omega)]
      refine (if_pos (Or.inr ⟨rfl, by omega, by omega⟩)).trans ?_
      exact hhs _
  have ho : ∀ c i, c ≠ 637 → c ≠ 638 → ¬ (c = 555 ∧ i = 115) → υ.I c i = σ1.I c i := fun c i a1 a2 a3 => by
    rw [e2]; show (if rg _ _ _ _ _ ∨ rg _ _ _ _ _ then _ else if at2 _ _ _ _ then _ else if at2 _ _ _ _ then _ else if at2 _ _ _ _ then _ else _) = _
    rw [if_neg (fun z => z.elim (fun y => a1 y.1) (fun y => a2 y.1)), if_neg (fun z => a1 z.1), if_neg (fun z => a2 z.1), if_neg (fun z => a3 z)]
  have hK : STO (fun y => ((0 ≤ y ∧ y < x) ∧ selH β y) ∨ y = x) (ltH β) := bfM_sto (fun o _ => ky_in _ _ _ _ _)
  refine ⟨?_, by omega, ?_, fun i i0 i1 => ?_, fun o p0 p1 q => ?_, fun o q => ?_, fun i i0 i1 => ?_⟩
  · refine ⟨⟨r2.1.trans (r1.1.trans ha.1.1), r2.2.1.trans (r1.2.1.trans ha.1.2.1), r2.2.2.trans (r1.2.2.trans ha.1.2.2)⟩, fun c i q => ?_⟩
    rw [ho c i (fun z => q (by unfold wsHi; omega)) (fun z => q (by unfold wsHi; omega)) (fun z => q (by unfold wsHi; omega)), o1 c i (fun z => q (by unfold wsHi; omega)) (fun z => q (by unfold wsHi; omega))]
    exact cc c i q
  · rw [hn1]
    have t := TopK_ins (n' := τ.I 555 115 + 1) (f' := υ.I 637) (p := p) hT (fun z => by have := z.1; omega) hK ipb.1 (fun i a c => (hq i (by omega) c).mp (ipb.2.1 i a c)) (fun a c => ipb.2.2 a ((hq (p - 1) (by omega) (by omega)).mpr c)) (by omega) (by omega) (fun i a c => hh i a c)
    refine TopK_cg t (fun y => ?_) (fun _ _ _ _ => Iff.rfl) (fun _ _ _ => rfl)
    constructor
    · rintro ⟨z1, z2⟩
      rcases (show y < x ∨ y = x by omega) with w | w
      · exact Or.inl ⟨⟨z1.1, w⟩, z2⟩
      · exact Or.inr w
    · rintro (⟨z1, z2⟩ | z)
      · exact ⟨⟨z1.1, by omega⟩, z2⟩
      · rw [z]; exact ⟨⟨h0, by omega⟩, hs⟩
  · rw [hn1] at i1
    rw [hz i i0 i1, hh i i0 i1]
    rcases (show i < p ∨ i = p ∨ p < i by omega) with z | z | z
    · rw [if_pos z, if_pos z]; exact hd i i0 (by omega)
    · rw [if_neg (by omega), if_pos z, if_neg (by omega), if_pos z]
    · rw [if_neg (by omega), if_neg (by omega), if_neg (by omega), if_neg (by omega)]; exact hd (i - 1) (by omega) (by omega)
  · rw [ho _ _ (by decide) (by decide) (by omega), ho _ _ (by decide) (by decide) (by omega)]
    rcases (show o < x ∨ o = x by omega) with w | w
    · have n := kn o (by omega)
      rw [n.1, n.2]; exact he o p0 w q
    · rw [w]; exact ⟨kd, ks⟩
  · rw [ho _ _ (by decide) (by decide) (by omega), (kn o (by omega)).2]; exact hf o (by omega)
  · rcases Int.lt_or_le i (τ.I 555 115 + 1) with w | w
    · rw [hh i i0 w]
      split
      · exact hg i i0 i1
      · split
        · omega
        · exact hg (i - 1) (by omega) (by omega)
    · rw [e2]; show 0 ≤ (if rg _ _ _ _ _ ∨ rg _ _ _ _ _ then _ else if at2 _ _ _ _ then _ else if at2 _ _ _ _ then _ else if at2 _ _ _ _ then _ else _) ∧ (if rg _ _ _ _ _ ∨ rg _ _ _ _ _ then _ else if at2 _ _ _ _ then _ else if at2 _ _ _ _ then _ else if at2 _ _ _ _ then _ else _) ≤ 600
      rw [if_neg (fun y => y.elim (fun z => by have := z.2.2; omega) (fun z => absurd z.1 (by decide))), if_neg (fun y => by have := y.2; omega), if_neg (fun y => absurd y.1 (by decide)), if_neg (fun y => absurd y.1 (by decide)), hhi]
      exact hg i i0 i1
end
section
/-! contracts: printed by tools/mk.py out of s98n_srchC.py -/
set_option maxRecDepth 100000
set_option maxHeartbeats 1200000
/-- no hits, and the shards were asked -/
def SR0 (σ ς : Sto) : Prop := (ς.R = σ.R ∧ ς.sh = σ.sh ∧ ς.n = σ.n) ∧ ς.I = fun c i => if c = 599 then σ.I c i + cn (fun s => nOf (σ.I 598) (σ.I 555 58) s = i) (σ.I 555 57) else if fgM c i then 0 else σ.I c i
def KPT (β τ : Sto) : Prop := (τ.I 555 114 = 1 ∧ ∀ f, 0 ≤ f → f < 12 → τ.I 639 f = β.I 602 f) ∧ (τ.I 555 120 = β.I 555 66 ∧ CPY β τ 603 640 (β.I 555 66)) ∧ (CPY β τ 621 641 (601 * β.I 555 80) ∧ CPY β τ 622 642 (601 * β.I 555 80) ∧ CPY β τ 623 643 (601 * β.I 555 80)) ∧ (CPY β τ 628 644 (20 * β.I 555 105) ∧ CPY β τ 629 645 (β.I 555 105) ∧ CPY β τ 630 646 (β.I 555 105)) ∧ CPY β τ 648 647 2080 ∧ CPY β τ 631 649 130 ∧ CPY β τ 632 650 130
def HTT (β τ : Sto) (x : Int) : Prop := (0 ≤ τ.I 555 115 ∧ τ.I 555 115 ≤ x) ∧ TopK (fun o => (0 ≤ o ∧ o < x) ∧ selH β o) (ltH β) 600 (τ.I 555 115) (τ.I 637) ∧ (∀ i, 0 ≤ i → i < τ.I 555 115 → τ.I 638 i = β.I 625 (τ.I 637 i)) ∧ bd_0_600 τ 637 600
def SRW (ς ω ρ β : Sto) (v n : Int) : Prop := (WLD ς ω v ∧ SEE ς ω 12 ∧ ChS wsEn ς ω) ∧ LDQ ω ρ 603 0 n ∧ WKN ρ β (lsM ρ) (ρ.I 555 80) ∧ MSC ρ β (wV ρ (lsM ρ) (ρ.I 555 80 - 1)) (ρ.I 613 (ρ.I 555 80 - 1)) 601 ∧ KM ρ β
def wsSr (c : Nat) (i : Int) : Prop := wsEn c i ∨ wsHi c i ∨ wsKS c i ∨ (c = 555 ∧ i = 114) ∨ c = 639
def SRM (ς τ : Sto) (v n : Int) : Prop := ∃ ω ρ β, SRW ς ω ρ β v n ∧ HTT β τ (ς.I 555 52) ∧ KPT β τ
def SR60 (σ τ : Sto) (v n x : Int) : Prop := ∃ ς ω ρ β, SR0 σ ς ∧ SRW ς ω ρ β v n ∧ HTI β τ x
theorem SRW_c {ς ω ρ β : Sto} {v n : Int} (h : SRW ς ω ρ β v n) : ChS wsEn ς β := ChS.tr (ChS.tr h.1.2.2 (ChS.mono h.2.1.1 (fun c i q => Or.inr (Or.inl q)))) (ChS.of (Ch.mono h.2.2.2.2 (fun c i q => Or.inl q)))
theorem SR0_c {σ ς : Sto} (h : SR0 σ ς) {c : Nat} {i : Int} (q : c ≠ 599) (q2 : ¬ fgM c i) : ς.I c i = σ.I c i := by rw [h.2]; show (if _ then _ else if _ then _ else _) = _; rw [if_neg q, if_neg q2]

theorem WLD_x {σ τ : Sto} {v : Int} (h : WLD σ τ v) (hn : σ.I 555 52 ≤ 600) : ∀ o, 0 ≤ o → o < 601 → (0 ≤ τ.I 601 o ∧ τ.I 601 o ≤ 1) ∧ (τ.I 601 o = 1 → wwM σ v o = 1) ∧ (o = 600 → τ.I 601 o = 0) := by
  intro o a b
  have z2 := zb_in (o < σ.I 555 52 ∧ inV (σ.I 594) (σ.I 592) (σ.I 593) v o)
  have z3 : o = 600 → wwM σ v o = 0 := fun q => zb_f (fun z => by have := z.1; omega)
  by_cases c : σ.I 555 61 = 0 ∨ σ.I 608 (σ.I 555 61) ≤ 0
  · rw [h.1 c o a b]
    exact ⟨by unfold wwM; omega, id, z3⟩
  · obtain ⟨ω, ρ, _, _, q⟩ := h.2 (fun z => c (Or.inl z)) (by omega)
    rw [q o a b]
    have z1 := zb_in (wwM σ v o = 1 ∧ ¬ hid ρ o)
    refine ⟨by unfold whI; omega, fun z => ?_, fun z => ?_⟩
    · unfold whI at z; exact (zb_1.mp z).1
    · unfold whI; exact zb_f (fun y => by have := y.1; have := z3 z; omega)
theorem HTI_B {β τ : Sto} {x : Int} (h : HTI β τ x) {c : Nat} {i : Int} (q : ¬ wsHi c i) : τ.I c i = β.I c i := h.1.2 c i q

theorem AC_bk {σ τ : Sto} (e : ∀ c i, 558 ≤ c ∧ c ≤ 564 → τ.I c i = σ.I c i) (h : AC τ) : AC σ := by
  have k : ∀ c, 558 ≤ c ∧ c ≤ 564 → σ.I c = τ.I c := fun c q => funext fun i => (e c i q).symm
  obtain ⟨a1, a2, a3, a4, a5, a6⟩ := h
  exact ⟨bd_0_1_eq a1 (k _ (by omega)), bd_0_2_eq a2 (k _ (by omega)), bd_0_5_eq a3 (k _ (by omega)), bd_0_20_eq a4 (k _ (by omega)), bd_0_20_eq a5 (k _ (by omega)), bd_0_20_eq a6 (k _ (by omega))⟩

theorem sp_X9_search {E : XE} {d : Nat} {σ : Sto} {x1 : Int} (hd : 511 ≤ d) (hL : Lay σ)  (p0 : inR x1) (p1 : 0 ≤ σ.I 555 52 ∧ σ.I 555 52 ≤ 600) (p2 : 0 ≤ σ.I 555 61 ∧ σ.I 555 61 < 4) (p3 : 0 ≤ σ.I 608 (σ.I 555 61) ∧ σ.I 608 (σ.I 555 61) ≤ 400) (p4 : 0 ≤ σ.I 555 27 ∧ σ.I 555 27 ≤ 12) (p5 : BAS σ) (p6 : WKB σ) (p7 : 0 ≤ (if x1 = -1 then σ.I 555 53 else if 0 ≤ x1 ∧ x1 ≤ 3 then σ.I 597 x1 else -1) → WOH σ (if x1 = -1 then σ.I 555 53 else if 0 ≤ x1 ∧ x1 ≤ 3 then σ.I 597 x1 else -1)) (p8 : σ.I 555 61 ≠ 0 → 0 < σ.I 608 (σ.I 555 61) → qok (eQ σ 607 (400 * σ.I 555 61) (σ.I 608 (σ.I 555 61))) = 1) (p9 : (σ.I 555 66) ≠ 0 → qok (eQ σ 603 0 (σ.I 555 66)) = 1) (p10 : 0 ≤ (σ.I 555 66) ∧ (σ.I 555 66) ≤ 400) (p11 : (1 ≤ σ.I 555 58 ∧ σ.I 555 58 ≤ 8) ∧ (1 ≤ σ.I 555 57 ∧ σ.I 555 57 ≤ 8)) (p12 : bd_0_1000000 σ 599 8) (p13 : bd_0_600 σ 637 600) (p14 : σ.I 555 131 < 12) (p15 : inR (if x1 = -1 then σ.I 555 53 else if 0 ≤ x1 ∧ x1 ≤ 3 then σ.I 597 x1 else -1)) : CC E mX9_search d [aO 555, aI (x1)] σ (RVI (fun y τ => (((if x1 = -1 then σ.I 555 53 else if 0 ≤ x1 ∧ x1 ≤ 3 then σ.I 597 x1 else -1) < 0 ∧ y = -1 ∧ RD σ τ (fun c i => if fgM c i then 0 else σ.I c i)) ∨ (0 ≤ (if x1 = -1 then σ.I 555 53 else if 0 ≤ x1 ∧ x1 ≤ 3 then σ.I 597 x1 else -1) ∧ (σ.I 555 66) = 0 ∧ y = -2 ∧ RD σ τ (fun c i => if fgM c i then 0 else σ.I c i)) ∨ (0 ≤ (if x1 = -1 then σ.I 555 53 else if 0 ≤ x1 ∧ x1 ≤ 3 then σ.I 597 x1 else -1) ∧ (σ.I 555 66) ≠ 0 ∧ ¬ alN (fun s => 0 ≤ nOf (σ.I 598) (σ.I 555 58) s) (σ.I 555 57) ∧ y = -4 ∧ RD σ τ (fun c i => if fgM c i then 0 else σ.I c i)) ∨ (0 ≤ (if x1 = -1 then σ.I 555 53 else if 0 ≤ x1 ∧ x1 ≤ 3 then σ.I 597 x1 else -1) ∧ (σ.I 555 66) ≠ 0 ∧ alN (fun s => 0 ≤ nOf (σ.I 598) (σ.I 555 58) s) (σ.I 555 57) ∧ y = τ.I 555 115 ∧ ∃ ς, SR0 σ ς ∧ SRM ς τ (if x1 = -1 then σ.I 555 53 else if 0 ≤ x1 ∧ x1 ≤ 3 then σ.I 597 x1 else -1) (σ.I 555 66) ∧ ChS wsSr ς τ)) ∧ (WKB τ) ∧ (bd_0_600 τ 637 600))) := by sorry
end
