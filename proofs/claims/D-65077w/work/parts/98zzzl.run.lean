/-! contracts: printed by tools/mk.py out of s98zzzl_run.py -/
set_option maxRecDepth 100000
set_option maxHeartbeats 800000
/-! what a constructor makes, as a list of steps (the last one first): (0, t, z, a) cell a, (1, a, k, c) a reference, (2, a, k, v) a number, (3, a, k, v) the number -v, (4, a, n, v) the number -v from 0 to n -/
def fil (σ : Sto) (a : Nat) (n v : Int) : Sto := (fun c i => if c = a ∧ 0 ≤ i ∧ i < n then v else σ.I c i, σ.2)
def cstp : Nat × Nat × Nat × Nat → Sto → Sto
  | (0, t, z, _), σ => σ.al t z
  | (1, a, k, c), σ => σ.wR a (k : Int) (some c)
  | (2, a, k, v), σ => σ.wI a (k : Int) (v : Int)
  | (3, a, k, v), σ => σ.wI a (k : Int) (-(v : Int))
  | (_ + 4, a, n, v), σ => fil σ a (n : Int) (-(v : Int))
def crun : List (Nat × Nat × Nat × Nat) → Sto → Sto
  | [], σ => σ
  | o :: L, σ => cstp o (crun L σ)
/-- nothing is there -/
def e00 : Sto := (fun _ _ => 0, fun _ _ => none, fun _ => (99, 0), 0)
/-- m cells of z slots in all; numbers are put into cells that are there -/
def WF : Nat → Nat → List (Nat × Nat × Nat × Nat) → Prop
  | m, z, [] => m = 0 ∧ z = 0
  | m, z, (0, _, y, a) :: L => m = a + 1 ∧ y ≤ z ∧ WF a (z - y) L
  | m, z, (_ + 1, a, _, _) :: L => a < m ∧ WF m z L
def shC : List (Nat × Nat × Nat × Nat) → Nat → Option (Nat × Nat)
  | [], _ => none
  | (0, t, z, a) :: L, c => cond (Nat.beq c a) (some (t, z)) (shC L c)
  | (_ + 1, _) :: L, c => shC L c
def rC : List (Nat × Nat × Nat × Nat) → Nat → Nat → Option (Option Nat)
  | [], _, _ => none
  | (0, _, _, a) :: L, c, k => cond (Nat.beq c a) (some none) (rC L c k)
  | (1, b, j, x) :: L, c, k => cond (Nat.beq c b) (cond (Nat.beq k j) (some (some x)) (rC L c k)) (rC L c k)
  | (_ + 2, _) :: L, c, k => rC L c k
def nC : List (Nat × Nat × Nat × Nat) → Nat → Int → Int
  | [], _, _ => 0
  | (0, _) :: L, c, i => nC L c i
  | (1, _) :: L, c, i => nC L c i
  | (2, b, j, v) :: L, c, i => if c = b ∧ i = (j : Int) then (v : Int) else nC L c i
  | (3, b, j, v) :: L, c, i => if c = b ∧ i = (j : Int) then -(v : Int) else nC L c i
  | (_ + 4, b, n, v) :: L, c, i => if c = b ∧ 0 ≤ i ∧ i < (n : Int) then -(v : Int) else nC L c i
theorem wN : ∀ (L : List (Nat × Nat × Nat × Nat)) (m z : Nat), WF m z L → (crun L e00).n = m
  | [], m, z, h => h.1.symm
  | (0, t, y, a) :: L, m, z, h => by show (crun L e00).n + 1 = m; rw [wN L a _ h.2.2]; exact h.1.symm
  | (1, a, k, c) :: L, m, z, h => wN L m z h.2
  | (2, a, k, c) :: L, m, z, h => wN L m z h.2
  | (3, a, k, c) :: L, m, z, h => wN L m z h.2
  | (j + 4, a, k, c) :: L, m, z, h => wN L m z h.2
theorem ssum_eq {σ τ : Sto} (h1 : τ.n = σ.n) (h2 : τ.sh = σ.sh) : ssum τ = ssum σ := by unfold ssum; rw [h1, h2]
theorem wZ : ∀ (L : List (Nat × Nat × Nat × Nat)) (m z : Nat), WF m z L → ssum (crun L e00) = z
  | [], m, z, h => h.2.symm
  | (0, t, y, a) :: L, m, z, h => by show ssum ((crun L e00).al t y) = z; rw [ssum_al, wZ L a _ h.2.2]; have := h.2.1; omega
  | (1, a, k, c) :: L, m, z, h => wZ L m z h.2
  | (2, a, k, c) :: L, m, z, h => wZ L m z h.2
  | (3, a, k, c) :: L, m, z, h => wZ L m z h.2
  | (j + 4, a, k, c) :: L, m, z, h => wZ L m z h.2
theorem c_sh (c : Nat) (q : Nat × Nat) : ∀ (L : List (Nat × Nat × Nat × Nat)) (m z : Nat), WF m z L → shC L c = some q → (crun L e00).sh c = q
  | [], m, z, _, h => by cases h
  | (0, t, y, a) :: L, m, z, w, h => by
    have h2 : cond (Nat.beq c a) (some (t, y)) (shC L c) = some q := h
    show ((crun L e00).al t y).sh c = q
    cases e : Nat.beq c a with
    | true =>
      rw [e] at h2
      rw [Nat.eq_of_beq_eq_true e, ← wN L a _ w.2.2, sh_an]
      exact Option.some.inj h2
    | false =>
      rw [e] at h2
      rw [sh_al (by rw [wN L a _ w.2.2]; exact Nat.ne_of_beq_eq_false e)]
      exact c_sh c q L _ _ w.2.2 h2
  | (1, b, k, x) :: L, m, z, w, h => c_sh c q L m z w.2 h
  | (2, b, k, x) :: L, m, z, w, h => c_sh c q L m z w.2 h
  | (3, b, k, x) :: L, m, z, w, h => c_sh c q L m z w.2 h
  | (j + 4, b, k, x) :: L, m, z, w, h => c_sh c q L m z w.2 h
theorem c_R (c k : Nat) (v : Option Nat) : ∀ (L : List (Nat × Nat × Nat × Nat)) (m z : Nat), WF m z L → rC L c k = some v → (crun L e00).R c (k : Int) = v
  | [], m, z, _, h => by cases h
  | (0, t, y, a) :: L, m, z, w, h => by
    have h2 : cond (Nat.beq c a) (some none) (rC L c k) = some v := h
    show ((crun L e00).al t y).R c (k : Int) = v
    cases e : Nat.beq c a with
    | true =>
      rw [e] at h2
      rw [Nat.eq_of_beq_eq_true e, ← wN L a _ w.2.2, R_an]
      exact Option.some.inj h2
    | false =>
      rw [e] at h2
      rw [R_al (by rw [wN L a _ w.2.2]; exact Nat.ne_of_beq_eq_false e)]
      exact c_R c k v L _ _ w.2.2 h2
  | (1, b, j, x) :: L, m, z, w, h => by
    have h2 : cond (Nat.beq c b) (cond (Nat.beq k j) (some (some x)) (rC L c k)) (rC L c k) = some v := h
    show ((crun L e00).wR b (j : Int) (some x)).R c (k : Int) = v
    cases e : Nat.beq c b with
    | false =>
      rw [e] at h2
      rw [R_wR (fun q => Nat.ne_of_beq_eq_false e q.1)]
      exact c_R c k v L _ _ w.2 h2
    | true =>
      rw [e] at h2
      have h3 : cond (Nat.beq k j) (some (some x)) (rC L c k) = some v := h2
      cases f : Nat.beq k j with
      | true =>
        rw [f] at h3
        rw [Nat.eq_of_beq_eq_true e, Nat.eq_of_beq_eq_true f, R_ws]
        exact Option.some.inj h3
      | false =>
        rw [f] at h3
        rw [R_wR (fun q => Nat.ne_of_beq_eq_false f (by have := q.2; omega))]
        exact c_R c k v L _ _ w.2 h3
  | (2, b, j, x) :: L, m, z, w, h => c_R c k v L m z w.2 h
  | (3, b, j, x) :: L, m, z, w, h => c_R c k v L m z w.2 h
  | (j + 4, b, i, x) :: L, m, z, w, h => c_R c k v L m z w.2 h
theorem nC0 (c : Nat) (i : Int) : ∀ (L : List (Nat × Nat × Nat × Nat)) (m z : Nat), WF m z L → m ≤ c → nC L c i = 0
  | [], m, z, _, h => rfl
  | (0, t, y, a) :: L, m, z, w, h => nC0 c i L a _ w.2.2 (by have := w.1; omega)
  | (1, b, k, x) :: L, m, z, w, h => nC0 c i L m z w.2 h
  | (2, b, k, x) :: L, m, z, w, h => by
    show (if c = b ∧ i = (k : Int) then (x : Int) else nC L c i) = 0
    have := w.1
    rw [if_neg (by omega)]
    exact nC0 c i L m z w.2 h
  | (3, b, k, x) :: L, m, z, w, h => by
    show (if c = b ∧ i = (k : Int) then -(x : Int) else nC L c i) = 0
    have := w.1
    rw [if_neg (by omega)]
    exact nC0 c i L m z w.2 h
  | (j + 4, b, k, x) :: L, m, z, w, h => by
    show (if c = b ∧ 0 ≤ i ∧ i < (k : Int) then -(x : Int) else nC L c i) = 0
    have := w.1
    rw [if_neg (by omega)]
    exact nC0 c i L m z w.2 h
theorem c_I (c : Nat) (i : Int) : ∀ (L : List (Nat × Nat × Nat × Nat)) (m z : Nat), WF m z L → (crun L e00).I c i = nC L c i
  | [], m, z, _ => rfl
  | (0, t, y, a) :: L, m, z, w => by
    show (if c = (crun L e00).n then 0 else (crun L e00).I c i) = nC L c i
    rw [wN L a _ w.2.2, c_I c i L _ _ w.2.2]
    by_cases e : c = a
    · rw [if_pos e, nC0 c i L _ _ w.2.2 (by omega)]
    · rw [if_neg e]
  | (1, b, k, x) :: L, m, z, w => c_I c i L m z w.2
  | (2, b, k, x) :: L, m, z, w => by
    show (if c = b ∧ i = (k : Int) then (x : Int) else (crun L e00).I c i) = (if c = b ∧ i = (k : Int) then (x : Int) else nC L c i)
    rw [c_I c i L m z w.2]
  | (3, b, k, x) :: L, m, z, w => by
    show (if c = b ∧ i = (k : Int) then -(x : Int) else (crun L e00).I c i) = (if c = b ∧ i = (k : Int) then -(x : Int) else nC L c i)
    rw [c_I c i L m z w.2]
  | (j + 4, b, k, x) :: L, m, z, w => by
    show (if c = b ∧ 0 ≤ i ∧ i < (k : Int) then -(x : Int) else (crun L e00).I c i) = (if c = b ∧ 0 ≤ i ∧ i < (k : Int) then -(x : Int) else nC L c i)
    rw [c_I c i L m z w.2]
/-- the shapes of the cells in their order -/
def shA : List (Nat × Nat × Nat × Nat) → List (Nat × Nat) → List (Nat × Nat)
  | [], l => l
  | (0, t, z, _) :: L, l => shA L ((t, z) :: l)
  | (_ + 1, _) :: L, l => shA L l
theorem shA_app : ∀ (L : List (Nat × Nat × Nat × Nat)) (l : List (Nat × Nat)), shA L l = shA L [] ++ l
  | [], l => rfl
  | (0, t, z, a) :: L, l => by
    show shA L ((t, z) :: l) = shA L [(t, z)] ++ l
    rw [shA_app L ((t, z) :: l), shA_app L [(t, z)], List.append_assoc]
    rfl
  | (_ + 1, _) :: L, l => shA_app L l
theorem shA_len : ∀ (L : List (Nat × Nat × Nat × Nat)) (m z : Nat), WF m z L → (shA L []).length = m
  | [], m, z, h => h.1.symm
  | (0, t, y, a) :: L, m, z, h => by
    show (shA L [(t, y)]).length = m
    rw [shA_app, List.length_append, shA_len L a _ h.2.2]
    exact h.1.symm
  | (1, a, k, c) :: L, m, z, h => shA_len L m z h.2
  | (2, a, k, c) :: L, m, z, h => shA_len L m z h.2
  | (3, a, k, c) :: L, m, z, h => shA_len L m z h.2
  | (j + 4, a, k, c) :: L, m, z, h => shA_len L m z h.2
theorem shA_sh : ∀ (L : List (Nat × Nat × Nat × Nat)) (m z : Nat), WF m z L → ∀ (i : Nat) (q : Nat × Nat), (shA L [])[i]? = some q → (crun L e00).sh i = q
  | [], m, z, h, i, q, e => by cases e
  | (0, t, y, a) :: L, m, z, h, i, q, e => by
    have e2 : (shA L [(t, y)])[i]? = some q := e
    rw [shA_app] at e2
    have hl := shA_len L a _ h.2.2
    show ((crun L e00).al t y).sh i = q
    by_cases c : i < a
    · rw [List.getElem?_append_left (by omega)] at e2
      rw [sh_al (by rw [wN L a _ h.2.2]; omega)]
      exact shA_sh L a _ h.2.2 i q e2
    · rw [List.getElem?_append_right (by omega), hl] at e2
      by_cases d : i = a
      · subst d
        rw [Nat.sub_self] at e2
        rw [show i = (crun L e00).n from (wN L i _ h.2.2).symm, sh_an]
        exact Option.some.inj e2
      · rw [show ([(t, y)] : List (Nat × Nat))[i - a]? = none from List.getElem?_eq_none (by simp; omega)] at e2
        cases e2
  | (1, a, k, c) :: L, m, z, h, i, q, e => shA_sh L m z h.2 i q e
  | (2, a, k, c) :: L, m, z, h, i, q, e => shA_sh L m z h.2 i q e
  | (3, a, k, c) :: L, m, z, h, i, q, e => shA_sh L m z h.2 i q e
  | (j + 4, a, k, c) :: L, m, z, h, i, q, e => shA_sh L m z h.2 i q e
section WFS
variable {L : List (Nat × Nat × Nat × Nat)} {m z y a k : Nat} {q : Nat × Nat} {v : Option Nat}
theorem cnn (w : WF m z L) : (crun L e00).n = m := wN L m z w
theorem cn_ok (w : WF m z L) (h : m + 1 ≤ NC) : (crun L e00).n + 1 ≤ NC := by rw [cnn w]; exact h
theorem cz_ok (w : WF m z L) (h : z + y ≤ NS) : ssum (crun L e00) + y ≤ NS := by rw [wZ L m z w]; exact h
theorem csh (w : WF m z L) (h : shC L a = some q) : (crun L e00).sh a = q := c_sh a q L m z w h
theorem cR (w : WF m z L) (h : rC L a k = some v) : (crun L e00).R a (k : Int) = v := c_R a k v L m z w h
end WFS

