/-! THE LAYER: a typed abstract store over cell numbers; ints and longs are Ints -/
abbrev AV : Type := Int ⊕ Int ⊕ Option Nat ⊕ Nat ⊕ Value
abbrev aI (x : Int) : AV := .inl x
abbrev aL (x : Int) : AV := .inr (.inl x)
abbrev aR (r : Option Nat) : AV := .inr (.inr (.inl r))
abbrev aO (a : Nat) : AV := .inr (.inr (.inl (some a)))
abbrev aS (i : Nat) : AV := .inr (.inr (.inr (.inl i)))
abbrev aX (v : Value) : AV := .inr (.inr (.inr (.inr v)))
/-- what a run is over: the first address of ours; the addresses of the String constants; class numbers and slots; array classes; the heap at the start -/
abbrev XE : Type := Nat × (Nat → Nat) × va_G × (Nat → ClassId) × Heap
abbrev XE.bs (E : XE) : Nat := E.1
abbrev XE.sa (E : XE) : Nat → Nat := E.2.1
abbrev XE.D (E : XE) : va_G := E.2.2.1
abbrev XE.tc (E : XE) : Nat → ClassId := E.2.2.2.1
abbrev XE.H0 (E : XE) : Heap := E.2.2.2.2
/-- the store: numbers, references, shapes, how many cells -/
abbrev Sto : Type := (Nat → Int → Int) × (Nat → Int → Option Nat) × (Nat → Nat × Nat) × Nat
abbrev Sto.I (σ : Sto) : Nat → Int → Int := σ.1
abbrev Sto.R (σ : Sto) : Nat → Int → Option Nat := σ.2.1
abbrev Sto.sh (σ : Sto) : Nat → Nat × Nat := σ.2.2.1
abbrev Sto.n (σ : Sto) : Nat := σ.2.2.2
def cv (E : XE) : AV → Value
  | .inl x => .int (Int32.ofInt x)
  | .inr (.inl x) => .long (Int64.ofInt x)
  | .inr (.inr (.inl none)) => .null
  | .inr (.inr (.inl (some a))) => .ref (E.bs + a)
  | .inr (.inr (.inr (.inl i))) => .ref (E.sa i)
  | .inr (.inr (.inr (.inr v))) => v
def cvL (E : XE) (q : Nat × AV) : Nat × Value := (q.1, cv E q.2)
def inR (x : Int) : Prop := -2147483648 ≤ x ∧ x < 2147483648
def inL (x : Int) : Prop := -9223372036854775808 ≤ x ∧ x < 9223372036854775808
/-- array types by number; objects of class k have 100 + k; 99: nothing -/
def aty : Nat → FieldType
  | 0 => .int
  | 1 => .byte
  | 2 => .short
  | 3 => .boolean
  | 4 => .long
  | 5 => .object "SearchHouse$Analyser"
  | 6 => .object "SearchHouse$User"
  | _ => .object "SearchHouse$Question"
/-- of a Fault only its code is kept in sight -/
def TXF : u_T := fun _ => ("SearchHouse$Fault", "code", "I", true)
def clT : List (vw_C × (Nat → FieldType)) :=
  [((RX0, TX0, 104), tyX0), ((RX1, TX1, 6), tyX1), ((RX2, TX2, 9), tyX2), ((RX3, TX3, 17), tyX3), ((RX4, TX4, 4), tyX4), ((RX5, TX5, 21), tyX5), ((RX6, TX6, 10), tyX6), ((RX7, TX7, 3), tyX7), ((RX8, TX8, 3), tyX8), ((RX9, TX9, 166), tyX9), ((RX10, TX10, 7), tyX10), ((RX11, TX11, 3), tyX11), ((RX12, TXF, 1), fun _ => .int), (("java/lang/IllegalStateException", TXF, 0), fun _ => .int)]
def clV : List vw_C := clT.map (·.1)
def XE.tys (E : XE) : List (ClassId × FieldType) := (List.range 8).map fun t => (E.tc t, aty t)
def zfv (E : XE) (ty : FieldType) (x : Int) (r : Option Nat) : Value := match ty with
  | .long => .long (Int64.ofInt x)
  | .object _ => va_rf (r.map (E.bs + ·))
  | .array _ => va_rf (r.map (E.bs + ·))
  | _ => .int (Int32.ofInt x)
def zfs (E : XE) (σ : Sto) (a ci : Nat) : List Value := match clT[ci]? with
  | some q => (List.range q.1.2.2).map fun k => zfv E (q.2 k) (σ.I a k) (σ.R a k)
  | none => []
def zarr (E : XE) (σ : Sto) (a t : Nat) : (Nat → Int32) ⊕ (Nat → Int64) ⊕ (Nat → UInt32) ⊕ (Nat → UInt64) ⊕ (Nat → Option Nat) :=
  if t < 4 then .inl fun j => Int32.ofInt (σ.I a j) else if t = 4 then .inr (.inl fun j => Int64.ofInt (σ.I a j)) else .inr (.inr (.inr (.inr fun j => (σ.R a j).map (E.bs + ·))))
def zct (E : XE) (σ : Sto) (a : Nat) : va_E := if (σ.sh a).1 < 100 then .inl (E.tc (σ.sh a).1, (σ.sh a).2, zarr E σ a (σ.sh a).1) else .inr ((σ.sh a).1 - 100, zfs E σ a ((σ.sh a).1 - 100))
def zws (E : XE) (σ : Sto) : va_W := (List.range σ.n).map fun a => (E.bs + a, zct E σ a)
/-- the type of a place -/
def zty (sh : Nat × Nat) (i : Int) : FieldType := if sh.1 < 100 then aty sh.1 else match clT[sh.1 - 100]? with
  | some q => q.2 i.toNat
  | none => .long
def inT (ty : FieldType) (x : Int) : Prop := match ty with
  | .byte => -128 ≤ x ∧ x ≤ 127
  | .short => -32768 ≤ x ∧ x ≤ 32767
  | .boolean => 0 ≤ x ∧ x ≤ 1
  | .long => inL x
  | _ => inR x
/-- how many cells and slots may be made in all -/
abbrev NC : Nat := 727997
abbrev NS : Nat := 6917491
/-- the slots that the store's cells take -/
def ssum (σ : Sto) : Nat := ((List.range σ.n).map fun a => (σ.sh a).2).sum
/-- the places hold what their types can hold; nothing lies behind the last cell; lengths are ints -/
def TI (σ : Sto) : Prop := (∀ a i, inT (zty (σ.sh a) i) (σ.I a i)) ∧ (∀ a, σ.n ≤ a → σ.sh a = (99, 0) ∧ ∀ k, σ.R a k = none) ∧ (∀ a, (σ.sh a).2 < 2147483648) ∧ (∀ a, (σ.sh a).1 < 8 ∨ 99 ≤ (σ.sh a).1) ∧ σ.n ≤ NC ∧ ssum σ ≤ NS
def XA (E : XE) : Nat → Prop := fun q => E.bs ≤ q
def Rel (E : XE) (σ : Sto) (H : Heap) : Prop := H.size = E.bs + σ.n ∧ (∀ q, q < E.bs → H[q]? = E.H0[q]?) ∧ va_P E.D clV (zws E σ) H ∧ TI σ
/-- what the tables say all along -/
def KK (E : XE) (s : State) : Prop := va_K E.D clV E.tys s
/-- a method: name, bytes, locals, answer, handlers -/
abbrev MI : Type := MethodName × ByteArray × Nat × Option FieldType × List (Nat × Nat × Nat × Nat)
abbrev MI.y (M : MI) : MethodName := M.1
abbrev MI.cc (M : MI) : ByteArray := M.2.1
abbrev MI.nL (M : MI) : Nat := M.2.2.1
abbrev MI.ret (M : MI) : Option FieldType := M.2.2.2.1
abbrev MI.hh (M : MI) : List (Nat × Nat × Nat × Nat) := M.2.2.2.2
def rmZ (d mc ms : Nat) : Room := { frames := d, cells := mc, slots := ms, locals := 100 * d }
def hhOf (c : Code) : List (Nat × Nat × Nat × Nat) := c.exceptionTable.toList.map fun x => (x.startPc, x.endPc, x.handlerPc, x.catchType)
/-- the words of nest mates' links -/
def isNst : Cond → Bool
  | .fieldLinkNest .. => true
  | .methodLinkNest .. => true
  | .arrayOver (.object _) => true
  | .castable .. => true
  | .declares _ => true
  | _ => false
def lw_nst : List Cond := lw_tbl.filter isNst
theorem nst_in {w : Cond} (h : w ∈ lw_tbl) (hn : isNst w = true) : w ∈ lw_nst := List.mem_filter.mpr ⟨h, hn⟩
/-- what holds of the walk's surroundings -/
def Cx (M : MI) (p : Program) (s : State) (m : MethodId) (meth : Method) (c : Code) : Prop :=
  p.tables.exec = Jvm.exec ∧ c.code = M.cc ∧ c.maxLocals = M.nL ∧ s.vm.findClass M.y.cls = some m.cls ∧ (∀ w ∈ lw_all, ∀ a : Array Value, w.before a s = true) ∧ meth.sig.returnType = M.ret ∧ meth.locks = false ∧ meth.name = M.y.name ∧ hhOf c = M.hh ∧ ∀ w ∈ lw_nst, va_Nw w s
/-- how a method ends: with a value, or thrown -/
abbrev Res : Type := Option AV ⊕ Nat
def oc (E : XE) : Res → Outcome
  | .inl v => .returned (v.map (cv E))
  | .inr a => .threw (E.bs + a)
/-- the places whose references may change to others: the analysers, the Reader's question, the model's source and its two papers -/
def dyn (a : Nat) (k : Int) : Prop := a = 3 ∨ (a = 80 ∧ k = 0) ∨ (a = 555 ∧ (k = 74 ∨ k = 162 ∨ k = 163))
/-- what every run keeps: references that are not of those, shapes -/
def SF (σ σ' : Sto) : Prop := (∀ (a : Nat) (k : Int) (b : Nat), ¬ dyn a k → σ.R a k = some b → σ'.R a k = some b) ∧ (∀ a t z : Nat, σ.sh a = (t, z) → t ≠ 99 → σ'.sh a = (t, z)) ∧ σ.n ≤ σ'.n
theorem SF.rf {σ : Sto} : SF σ σ := ⟨fun _ _ _ _ h => h, fun _ _ _ h _ => h, Nat.le_refl _⟩
theorem SF.tr {σ τ ρ : Sto} (h : SF σ τ) (g : SF τ ρ) : SF σ ρ := ⟨fun a k b hd h1 => g.1 a k b hd (h.1 a k b hd h1), fun a t z h1 h2 => g.2.1 a t z (h.2.1 a t z h1 h2) h2, Nat.le_trans h.2.2 g.2.2⟩
def Nx (n0 s0 : Nat) (σ0 σ : Sto) : Prop := n0 ≤ σ.n ∧ s0 ≤ ssum σ ∧ SF σ0 σ
def ZQ (E : XE) (below : List Frame) (s : State) (n0 s0 : Nat) (σ0 : Sto) (Q : Res → Sto → Prop) : State → Prop := fun t =>
  ∃ (r : Res) (σ' : Sto) (Ls : List Loc), t.status = .running ∧ Ended t below (oc E r) ∧ Q r σ' ∧ Rel E σ' t.heap ∧ Nx n0 s0 σ0 σ' ∧ s.WarmedH t.vm ∧ s.sameButNew ({ t with vm := s.vm } : State) Ls (σ'.n - n0) (ssum σ' - s0) ∧ ∀ q ∈ Ls, XA E q.base
/-- the String constants by class, entry and text; their bytes -/
def strR : List (String × Nat × String) := [("SearchHouse$Analyser", 93, "ies"), ("SearchHouse$Analyser", 99, "aies"), ("SearchHouse$Analyser", 101, "eies"), ("SearchHouse$Analyser", 103, "es"), ("SearchHouse$Analyser", 105, "aes"), ("SearchHouse$Analyser", 107, "ees"), ("SearchHouse$Analyser", 109, "oes"), ("SearchHouse$Analyser", 111, "s"), ("SearchHouse$Analyser", 113, "us"), ("SearchHouse$Analyser", 115, "ss"), ("SearchHouse$Analyser", 124, "sses"), ("SearchHouse$Analyser", 135, "eed"), ("SearchHouse$Analyser", 140, "ed"), ("SearchHouse$Analyser", 142, "ing"), ("SearchHouse$Analyser", 144, "at"), ("SearchHouse$Analyser", 146, "bl"), ("SearchHouse$Analyser", 148, "iz"), ("SearchHouse$Analyser", 156, "ational ate,tional tion,enci ence,anci ance,izer ize,alli al,ization ize,ation ate,ator ate,alism al,iveness ive,fulness ful,ousness ous,aliti al,iviti ive,biliti ble,icate ic,ative ,alize al,iciti ic,ical ic,ful ,ness ,"), ("SearchHouseModel", 13, "stopped"), ("SearchHouseModel", 448, "ies"), ("SearchHouseModel", 454, "aies"), ("SearchHouseModel", 456, "eies"), ("SearchHouseModel", 458, "y"), ("SearchHouseModel", 464, "es"), ("SearchHouseModel", 466, "aes"), ("SearchHouseModel", 468, "ees"), ("SearchHouseModel", 470, "oes"), ("SearchHouseModel", 472, "e"), ("SearchHouseModel", 474, "s"), ("SearchHouseModel", 476, "us"), ("SearchHouseModel", 478, "ss"), ("SearchHouseModel", 480, ""), ("SearchHouseModel", 486, "sses"), ("SearchHouseModel", 499, "eed"), ("SearchHouseModel", 505, "ed"), ("SearchHouseModel", 507, "ing"), ("SearchHouseModel", 509, "at"), ("SearchHouseModel", 511, "bl"), ("SearchHouseModel", 513, "iz"), ("SearchHouseModel", 494, "i"), ("SearchHouseModel", 515, "ational ate,tional tion,enci ence,anci ance,izer ize,alli al,ization ize,ation ate,ator ate,alism al,iveness ive,fulness ful,ousness ous,aliti al,iviti ive,biliti ble,icate ic,ative ,alize al,iciti ic,ical ic,ful ,ness ,")]
def strB : List (List Int) := [[105, 101, 115], [97, 105, 101, 115], [101, 105, 101, 115], [101, 115], [97, 101, 115], [101, 101, 115], [111, 101, 115], [115], [117, 115], [115, 115], [115, 115, 101, 115], [101, 101, 100], [101, 100], [105, 110, 103], [97, 116], [98, 108], [105, 122], [97, 116, 105, 111, 110, 97, 108, 32, 97, 116, 101, 44, 116, 105, 111, 110, 97, 108, 32, 116, 105, 111, 110, 44, 101, 110, 99, 105, 32, 101, 110, 99, 101, 44, 97, 110, 99, 105, 32, 97, 110, 99, 101, 44, 105, 122, 101, 114, 32, 105, 122, 101, 44, 97, 108, 108, 105, 32, 97, 108, 44, 105, 122, 97, 116, 105, 111, 110, 32, 105, 122, 101, 44, 97, 116, 105, 111, 110, 32, 97, 116, 101, 44, 97, 116, 111, 114, 32, 97, 116, 101, 44, 97, 108, 105, 115, 109, 32, 97, 108, 44, 105, 118, 101, 110, 101, 115, 115, 32, 105, 118, 101, 44, 102, 117, 108, 110, 101, 115, 115, 32, 102, 117, 108, 44, 111, 117, 115, 110, 101, 115, 115, 32, 111, 117, 115, 44, 97, 108, 105, 116, 105, 32, 97, 108, 44, 105, 118, 105, 116, 105, 32, 105, 118, 101, 44, 98, 105, 108, 105, 116, 105, 32, 98, 108, 101, 44, 105, 99, 97, 116, 101, 32, 105, 99, 44, 97, 116, 105, 118, 101, 32, 44, 97, 108, 105, 122, 101, 32, 97, 108, 44, 105, 99, 105, 116, 105, 32, 105, 99, 44, 105, 99, 97, 108, 32, 105, 99, 44, 102, 117, 108, 32, 44, 110, 101, 115, 115, 32, 44], [115, 116, 111, 112, 112, 101, 100], [105, 101, 115], [97, 105, 101, 115], [101, 105, 101, 115], [121], [101, 115], [97, 101, 115], [101, 101, 115], [111, 101, 115], [101], [115], [117, 115], [115, 115], [], [115, 115, 101, 115], [101, 101, 100], [101, 100], [105, 110, 103], [97, 116], [98, 108], [105, 122], [105], [97, 116, 105, 111, 110, 97, 108, 32, 97, 116, 101, 44, 116, 105, 111, 110, 97, 108, 32, 116, 105, 111, 110, 44, 101, 110, 99, 105, 32, 101, 110, 99, 101, 44, 97, 110, 99, 105, 32, 97, 110, 99, 101, 44, 105, 122, 101, 114, 32, 105, 122, 101, 44, 97, 108, 108, 105, 32, 97, 108, 44, 105, 122, 97, 116, 105, 111, 110, 32, 105, 122, 101, 44, 97, 116, 105, 111, 110, 32, 97, 116, 101, 44, 97, 116, 111, 114, 32, 97, 116, 101, 44, 97, 108, 105, 115, 109, 32, 97, 108, 44, 105, 118, 101, 110, 101, 115, 115, 32, 105, 118, 101, 44, 102, 117, 108, 110, 101, 115, 115, 32, 102, 117, 108, 44, 111, 117, 115, 110, 101, 115, 115, 32, 111, 117, 115, 44, 97, 108, 105, 116, 105, 32, 97, 108, 44, 105, 118, 105, 116, 105, 32, 105, 118, 101, 44, 98, 105, 108, 105, 116, 105, 32, 98, 108, 101, 44, 105, 99, 97, 116, 101, 32, 105, 99, 44, 97, 116, 105, 118, 101, 32, 44, 97, 108, 105, 122, 101, 32, 97, 108, 44, 105, 99, 105, 116, 105, 32, 105, 99, 44, 105, 99, 97, 108, 32, 105, 99, 44, 102, 117, 108, 32, 44, 110, 101, 115, 115, 32, 44]]
def sl (i : Nat) : Int := ((strB.getD i []).length : Int)
def sc (i : Nat) (k : Int) : Int := (strB.getD i []).getD k.toNat 0
/-- a static field of Throwable: where it lies, what it holds -/
def zST (n d : String) (v : Value) (A : Nat → Prop) (U : State) (H : Heap) : Prop := ∃ (cf : ClassId) (kf : Class) (fi : Nat) (f : Field) (a : Nat) (cell : Cell), U.vm.findClass "java/lang/Throwable" = some cf ∧ U.fieldFound? "java/lang/Throwable" n d = some (cf, kf, fi, f) ∧ f.isStatic = true ∧ kf.statics = some a ∧ H[a]? = some cell ∧ cell.vm.isStatics = true ∧ cell.cls = cf ∧ f.slot < cell.slots.size ∧ kf.staticTypes[f.slot]? = some f.type ∧ cell.slots[f.slot]? = some v ∧ ¬ A a
theorem zST.moved {n d : String} {v : Value} {A : Nat → Prop} {u U : State} {H : Heap} (hvm : u.vm.Alike U.vm) (h : zST n d v A u H) : zST n d v A U H := by
  obtain ⟨cf, kf, fi, f, a, cell, h0, h1, h2, h3, h4, h5, h6, h7, h8, h9⟩ := h
  obtain ⟨k', hi', he⟩ := State.fieldFound?_setVm hvm h1
  exact ⟨cf, k', fi, f, a, cell, by rw [hvm.findClass]; exact h0, hi', h2, by rw [he]; exact h3, h4, h5, h6, h7, by rw [he]; exact h8, h9⟩
/-- what was there before: the Strings (at E.sa i, their bytes at E.sa (100 + i)), the script (at E.sa 1000, E.sa 1001 long), statics -/
def SX (E : XE) (s : State) : Prop :=
  (∀ (i : Nat) (q : String × Nat × String), strR[i]? = some q → vk_R q.1 q.2.1 q.2.2 (E.sa i) s) ∧
  (∀ i : Nat, i < strB.length → va_O "java/lang/String" (E.sa i) (XA E) s E.H0 ∧ va_OF "java/lang/String" "coder" "B" (.int 0) (E.sa i) (XA E) s E.H0 ∧ va_OF "java/lang/String" "value" "[B" (.ref (E.sa (100 + i))) (E.sa i) (XA E) s E.H0 ∧ va_T .byte (E.sa (100 + i)) (strB.getD i []).length (fun j => .int (Int32.ofInt (sc i j))) (XA E) s E.H0) ∧
  (va_T .int (E.sa 1000) (E.sa 1001) (fun j => .int (Int32.ofNat (E.sa (2000 + j)))) (XA E) s E.H0 ∧ E.sa 1001 ≤ 512) ∧
  va_Z "java/lang/String" "COMPACT_STRINGS" "Z" (.int 1) (XA E) s E.H0 ∧ (∃ v : Value, v.category = 1 ∧ va_Z "jdk/internal/util/Preconditions" "SIOOBE_FORMATTER" "Ljava/util/function/BiFunction;" v (XA E) s E.H0) ∧
  (∃ v : Value, v.isRef = true ∧ zST "UNASSIGNED_STACK" "[Ljava/lang/StackTraceElement;" v (XA E) s E.H0) ∧ (∃ v : Value, v.isRef = true ∧ zST "SUPPRESSED_SENTINEL" "Ljava/util/List;" v (XA E) s E.H0)
theorem SX.warm {E : XE} {s U : State} (h : SX E s) (hW : s.WarmedH U.vm) : SX E U := by
  obtain ⟨h1, h2, ⟨h3, h4⟩, h5, ⟨v, h6, h7⟩, ⟨v2, h8, h9⟩, ⟨v3, ha, hb⟩⟩ := h
  exact ⟨fun i q hq => vk_R.warm hW (h1 i q hq), fun i hi => ⟨va_O.moved hW.alike (h2 i hi).1, va_OF.moved hW.alike (h2 i hi).2.1, va_OF.moved hW.alike (h2 i hi).2.2.1, va_T.moved hW.alike (h2 i hi).2.2.2⟩, ⟨va_T.moved hW.alike h3, h4⟩, va_Z.moved hW.alike h5, ⟨v, h6, va_Z.moved hW.alike h7⟩, ⟨v2, h8, zST.moved hW.alike h9⟩, ⟨v3, ha, zST.moved hW.alike hb⟩⟩
/-- what holds around a walk: the code, the tables, how many cells there were when the method began (n0, s0), the room -/
def Cy (E : XE) (M : MI) (d n0 s0 : Nat) (p : Program) (R : Room) (s : State) (m : MethodId) (meth : Method) (c : Code) : Prop :=
  Cx M p s m meth c ∧ KK E s ∧ s.heap.size = E.bs + n0 ∧ d ≤ R.frames ∧ 100 * d ≤ R.locals ∧ NC ≤ n0 + R.cells ∧ NS ≤ s0 + R.slots ∧ SX E s ∧ E.bs = E.H0.size
section CY
variable {E : XE} {M : MI} {d n0 s0 : Nat} {p : Program} {R : Room} {s : State} {m : MethodId} {meth : Method} {c : Code}
theorem Cy.ex (h : Cy E M d n0 s0 p R s m meth c) : p.tables.exec = Jvm.exec := h.1.1
theorem Cy.by (h : Cy E M d n0 s0 p R s m meth c) : c.code = M.cc := h.1.2.1
theorem Cy.ml (h : Cy E M d n0 s0 p R s m meth c) : c.maxLocals = M.nL := h.1.2.2.1
theorem Cy.own (h : Cy E M d n0 s0 p R s m meth c) : s.vm.findClass M.y.cls = some m.cls := h.1.2.2.2.1
theorem Cy.wd (h : Cy E M d n0 s0 p R s m meth c) : ∀ w ∈ lw_all, ∀ a : Array Value, w.before a s = true := h.1.2.2.2.2.1
theorem Cy.rt (h : Cy E M d n0 s0 p R s m meth c) : meth.sig.returnType = M.ret := h.1.2.2.2.2.2.1
theorem Cy.lk (h : Cy E M d n0 s0 p R s m meth c) : meth.locks = false := h.1.2.2.2.2.2.2.1
theorem Cy.nm (h : Cy E M d n0 s0 p R s m meth c) : meth.name = M.y.name := h.1.2.2.2.2.2.2.2.1
theorem Cy.hh (h : Cy E M d n0 s0 p R s m meth c) : hhOf c = M.hh := h.1.2.2.2.2.2.2.2.2.1
theorem Cy.ns (h : Cy E M d n0 s0 p R s m meth c) : ∀ w ∈ lw_nst, va_Nw w s := h.1.2.2.2.2.2.2.2.2.2
theorem Cy.kk (h : Cy E M d n0 s0 p R s m meth c) : KK E s := h.2.1
theorem Cy.sz (h : Cy E M d n0 s0 p R s m meth c) : s.heap.size = E.bs + n0 := h.2.2.1
theorem Cy.fr (h : Cy E M d n0 s0 p R s m meth c) : d ≤ R.frames := h.2.2.2.1
theorem Cy.lo (h : Cy E M d n0 s0 p R s m meth c) : 100 * d ≤ R.locals := h.2.2.2.2.1
theorem Cy.nc (h : Cy E M d n0 s0 p R s m meth c) : NC ≤ n0 + R.cells := h.2.2.2.2.2.1
theorem Cy.nS (h : Cy E M d n0 s0 p R s m meth c) : NS ≤ s0 + R.slots := h.2.2.2.2.2.2.1
theorem Cy.sx (h : Cy E M d n0 s0 p R s m meth c) : SX E s := h.2.2.2.2.2.2.2.1
theorem Cy.b0 (h : Cy E M d n0 s0 p R s m meth c) : E.bs = E.H0.size := h.2.2.2.2.2.2.2.2
end CY
/-- a launch without stack traces (the claim's flags say so) -/
abbrev LN : Type := { l : Launch // l.stackTraces = false }
/-- THE JUDGEMENT: at pc, with the locals L (by their places) and the operands st, over the store σ: the method ends with Q. d: frames that are left -/
def VV (E : XE) (M : MI) (d pc : Nat) (L : List (Nat × AV)) (st : List AV) (σ : Sto) (Q : Res → Sto → Prop) : Prop :=
  ∀ (p : Program) (l : LN) (e : Env) (R : Room) (s : State) (m : MethodId) (args : Array Value) (below : List Frame) (meth : Method) (c : Code) (n0 s0 : Nat) (σ0 : Sto), Cy E M d n0 s0 p R s m meth c →
    ∀ (H : Heap) (locs : List Loc), Rel E σ H → (∀ q ∈ locs, XA E q.base) → Nx n0 s0 σ0 σ → ∀ ls : Array Slot, lv_has ls M.nL (L.map (cvL E)) →
      W p l.1 e R s m args below meth c H locs (σ.n - n0) (ssum σ - s0) (ZQ E below s n0 s0 σ0 Q) (F0 m pc ls (st.map (cv E)))
/-- decode, with the place behind -/
def DD (cc : ByteArray) (pc n pc' : Nat) (i : Instr) : Prop := decode cc pc = .ok (i, n) ∧ pc + n = pc'
/-! numbers -/
theorem i32_to {x : Int} (h : inR x) : (Int32.ofInt x).toInt = x := Int32.toInt_ofInt_of_le (by have := h.1; omega) (by have := h.2; omega)
theorem i64_to {x : Int} (h : inL x) : (Int64.ofInt x).toInt = x := Int64.toInt_ofInt_of_le (by have := h.1; omega) (by have := h.2; omega)
theorem i32_lt {x y : Int} (hx : inR x) (hy : inR y) : Int32.ofInt x < Int32.ofInt y ↔ x < y := by rw [Int32.lt_iff_toInt_lt, i32_to hx, i32_to hy]
theorem i32_le {x y : Int} (hx : inR x) (hy : inR y) : Int32.ofInt x ≤ Int32.ofInt y ↔ x ≤ y := by rw [Int32.le_iff_toInt_le, i32_to hx, i32_to hy]
theorem i32_eq {x y : Int} (hx : inR x) (hy : inR y) : Int32.ofInt x = Int32.ofInt y ↔ x = y := by rw [← Int32.toInt_inj, i32_to hx, i32_to hy]
theorem i64_lt {x y : Int} (hx : inL x) (hy : inL y) : Int64.ofInt x < Int64.ofInt y ↔ x < y := by rw [Int64.lt_iff_toInt_lt, i64_to hx, i64_to hy]
theorem i64_le {x y : Int} (hx : inL x) (hy : inL y) : Int64.ofInt x ≤ Int64.ofInt y ↔ x ≤ y := by rw [Int64.le_iff_toInt_le, i64_to hx, i64_to hy]
theorem i64_eq {x y : Int} (hx : inL x) (hy : inL y) : Int64.ofInt x = Int64.ofInt y ↔ x = y := by rw [← Int64.toInt_inj, i64_to hx, i64_to hy]
theorem i32_in {x : Int} {n : Nat} (h0 : 0 ≤ x) (h1 : x < n) (hn : n < 2147483648) : vp_in (Int32.ofInt x) n := by
  rw [vp_in_iff, i32_to ⟨by omega, by omega⟩]; exact ⟨h0, h1⟩
theorem i32_cl {x : Int} (h0 : 0 ≤ x) (h1 : x < 2147483648) : (Int32.ofInt x).toNatClampNeg = x.toNat := by
  have h := i32_to (x := x) ⟨by omega, h1⟩
  show (Int32.ofInt x).toInt.toNat = x.toNat
  rw [h]
theorem i32_0 : (0 : Int32) = Int32.ofInt 0 := rfl
theorem inR_0 : inR 0 := ⟨by decide, by decide⟩
theorem i8_lit {x : Int} (h1 : -128 ≤ x) (h2 : x ≤ 127) : (Int8.ofInt x).toInt32 = Int32.ofInt x := by
  rw [← Int32.toInt_inj, Int8.toInt_toInt32, i32_to ⟨by omega, by omega⟩, Int8.toInt_ofInt_of_le (by omega) (by omega)]
theorem i16_lit {x : Int} (h1 : -32768 ≤ x) (h2 : x ≤ 32767) : (Int16.ofInt x).toInt32 = Int32.ofInt x := by
  rw [← Int32.toInt_inj, Int16.toInt_toInt32, i32_to ⟨by omega, by omega⟩, Int16.toInt_ofInt_of_le (by omega) (by omega)]
def acat : AV → Nat
  | .inr (.inl _) => 2
  | .inr (.inr (.inr (.inr v))) => v.category
  | _ => 1
theorem cv_cat (E : XE) (v : AV) : (cv E v).category = acat v := by
  rcases v with x | x | (_ | a) | i | v <;> rfl
def b32and (x y : Int) : Int := (Int32.ofInt x &&& Int32.ofInt y).toInt
def b32or (x y : Int) : Int := (Int32.ofInt x ||| Int32.ofInt y).toInt
def b32xor (x y : Int) : Int := (Int32.ofInt x ^^^ Int32.ofInt y).toInt
def b64and (x y : Int) : Int := (Int64.ofInt x &&& Int64.ofInt y).toInt
def b64or (x y : Int) : Int := (Int64.ofInt x ||| Int64.ofInt y).toInt
def b32shl (x y : Int) : Int := (Int32.ofInt x <<< (Int32.ofInt y &&& 31)).toInt
def b32shr (x y : Int) : Int := (Int32.ofInt x >>> (Int32.ofInt y &&& 31)).toInt
def b32ushr (x y : Int) : Int := ((Int32.ofInt x).toUInt32 >>> ((Int32.ofInt y).toUInt32 &&& Int32.toUInt32 31)).toInt32.toInt
def b64shl (x y : Int) : Int := (Int64.ofInt x <<< ((Int32.ofInt y).toInt64 &&& 63)).toInt
def b64shr (x y : Int) : Int := (Int64.ofInt x >>> ((Int32.ofInt y).toInt64 &&& 63)).toInt
def sx8 (x : Int) : Int := (Int32.ofInt x).toInt8.toInt
def sx16 (x : Int) : Int := (Int32.ofInt x).toInt16.toInt
theorem i32_and (x y : Int) : Int32.ofInt (b32and x y) = Int32.ofInt x &&& Int32.ofInt y := Int32.ofInt_toInt _
theorem i32_or (x y : Int) : Int32.ofInt (b32or x y) = Int32.ofInt x ||| Int32.ofInt y := Int32.ofInt_toInt _
theorem i32_xor (x y : Int) : Int32.ofInt (b32xor x y) = Int32.ofInt x ^^^ Int32.ofInt y := Int32.ofInt_toInt _
theorem i64_and (x y : Int) : Int64.ofInt (b64and x y) = Int64.ofInt x &&& Int64.ofInt y := Int64.ofInt_toInt _
theorem i64_or (x y : Int) : Int64.ofInt (b64or x y) = Int64.ofInt x ||| Int64.ofInt y := Int64.ofInt_toInt _
theorem i32_shl (x y : Int) : Int32.ofInt (b32shl x y) = Int32.ofInt x <<< (Int32.ofInt y &&& 31) := Int32.ofInt_toInt _
theorem i32_shr (x y : Int) : Int32.ofInt (b32shr x y) = Int32.ofInt x >>> (Int32.ofInt y &&& 31) := Int32.ofInt_toInt _
theorem i32_ushr (x y : Int) : Int32.ofInt (b32ushr x y) = ((Int32.ofInt x).toUInt32 >>> ((Int32.ofInt y).toUInt32 &&& Int32.toUInt32 31)).toInt32 := Int32.ofInt_toInt _
theorem i64_shl (x y : Int) : Int64.ofInt (b64shl x y) = Int64.ofInt x <<< ((Int32.ofInt y).toInt64 &&& 63) := Int64.ofInt_toInt _
theorem i64_shr (x y : Int) : Int64.ofInt (b64shr x y) = Int64.ofInt x >>> ((Int32.ofInt y).toInt64 &&& 63) := Int64.ofInt_toInt _
theorem i32_64 {x : Int} (h : inR x) : (Int32.ofInt x).toInt64 = Int64.ofInt x := by
  rw [← Int64.toInt_inj, Int32.toInt_toInt64, i32_to h, i64_to ⟨by have := h.1; omega, by have := h.2; omega⟩]
theorem i64_32 (x : Int) : (Int64.ofInt x).toInt32 = Int32.ofInt x := by
  rw [← Int32.toInt_inj, Int64.toInt_toInt32, Int64.toInt_ofInt, Int32.toInt_ofInt]
  exact Int.bmod_bmod_of_dvd (by decide)
theorem i32_8 (x : Int) : (Int32.ofInt x).toInt8.toInt32 = Int32.ofInt (sx8 x) := by
  rw [← Int32.toInt_inj, Int8.toInt_toInt32, sx8, i32_to ⟨by have := Int8.minValue_le_toInt (Int32.ofInt x).toInt8; have e : Int8.minValue.toInt = -128 := rfl; omega, by have := Int8.toInt_lt (Int32.ofInt x).toInt8; omega⟩]
theorem i32_16 (x : Int) : (Int32.ofInt x).toInt16.toInt32 = Int32.ofInt (sx16 x) := by
  rw [← Int32.toInt_inj, Int16.toInt_toInt32, sx16, i32_to ⟨by have := Int16.minValue_le_toInt (Int32.ofInt x).toInt16; have e : Int16.minValue.toInt = -32768 := rfl; omega, by have := Int16.toInt_lt (Int32.ofInt x).toInt16; omega⟩]
theorem i32_ne {y : Int} (hy : inR y) (h : y ≠ 0) : ¬ Int32.ofInt y = 0 := fun q => h ((i32_eq hy inR_0).mp q)
theorem i64_ne {y : Int} (hy : inL y) (h : y ≠ 0) : ¬ Int64.ofInt y = 0 := fun q => h ((i64_eq hy ⟨by decide, by decide⟩).mp q)
theorem tdiv_le {x y : Int} (h : y ≠ -1) : (x.tdiv y).natAbs ≤ x.natAbs := by
  rw [Int.natAbs_tdiv]; exact Nat.div_le_self _ _
theorem i32_div {x y : Int} (hx : inR x) (hy : inR y) (h1 : y ≠ -1) : Int32.ofInt x / Int32.ofInt y = Int32.ofInt (x.tdiv y) := by
  have hne : Int32.ofInt y ≠ -1 := fun q => h1 ((i32_eq hy (y := -1) ⟨by decide, by decide⟩).mp q)
  rw [← Int32.toInt_inj, Int32.toInt_div_of_ne_right _ _ hne, i32_to hx, i32_to hy, Int32.toInt_ofInt]
  symm
  have h := Int32.toInt_div_of_ne_right (Int32.ofInt x) (Int32.ofInt y) hne
  rw [i32_to hx, i32_to hy] at h
  have a := Int32.minValue_le_toInt (Int32.ofInt x / Int32.ofInt y)
  have b := Int32.toInt_lt (Int32.ofInt x / Int32.ofInt y)
  have e : Int32.minValue.toInt = -2147483648 := rfl
  have e2 : ((Int32.size : Nat) : Int) = 4294967296 := rfl
  exact Int.bmod_eq_of_le (by rw [h] at a; omega) (by rw [h] at b; omega)
theorem i64_div {x y : Int} (hx : inL x) (hy : inL y) (h1 : y ≠ -1) : Int64.ofInt x / Int64.ofInt y = Int64.ofInt (x.tdiv y) := by
  have hne : Int64.ofInt y ≠ -1 := fun q => h1 ((i64_eq hy (y := -1) ⟨by decide, by decide⟩).mp q)
  rw [← Int64.toInt_inj, Int64.toInt_div_of_ne_right _ _ hne, i64_to hx, i64_to hy, Int64.toInt_ofInt]
  symm
  have h := Int64.toInt_div_of_ne_right (Int64.ofInt x) (Int64.ofInt y) hne
  rw [i64_to hx, i64_to hy] at h
  have a := Int64.minValue_le_toInt (Int64.ofInt x / Int64.ofInt y)
  have b := Int64.toInt_lt (Int64.ofInt x / Int64.ofInt y)
  have e : Int64.minValue.toInt = -9223372036854775808 := rfl
  have e2 : ((Int64.size : Nat) : Int) = 18446744073709551616 := rfl
  exact Int.bmod_eq_of_le (by rw [h] at a; omega) (by rw [h] at b; omega)
theorem i32_rem {x y : Int} (hx : inR x) (hy : inR y) (h1 : y ≠ -1) : Int32.ofInt x - Int32.ofInt x / Int32.ofInt y * Int32.ofInt y = Int32.ofInt (x.tmod y) := by
  rw [i32_div hx hy h1, ← Int32.ofInt_mul, ← Int32.ofInt_sub, Int.tmod_def, Int.mul_comm y]
theorem sx8_in (x : Int) : -128 ≤ sx8 x ∧ sx8 x ≤ 127 := by
  have a := Int8.minValue_le_toInt (Int32.ofInt x).toInt8
  have b := Int8.toInt_lt (Int32.ofInt x).toInt8
  have e : Int8.minValue.toInt = -128 := rfl
  unfold sx8
  omega
theorem sx16_in (x : Int) : -32768 ≤ sx16 x ∧ sx16 x ≤ 32767 := by
  have a := Int16.minValue_le_toInt (Int32.ofInt x).toInt16
  have b := Int16.toInt_lt (Int32.ofInt x).toInt16
  have e : Int16.minValue.toInt = -32768 := rfl
  unfold sx16
  omega
theorem narZ {x : Int} (h : 0 ≤ x ∧ x ≤ 1) : narrow .boolean (.int (Int32.ofInt x)) = .int (Int32.ofInt x) := by
  have : x = 0 ∨ x = 1 := by omega
  rcases this with rfl | rfl <;> rfl
theorem fitZ {x : Int} (h : 0 ≤ x ∧ x ≤ 1) : fits .boolean (.int (Int32.ofInt x)) = true := by
  have : x = 0 ∨ x = 1 := by omega
  rcases this with rfl | rfl <;> rfl
