/-! numbers: bits; values that wrap -/
theorem i32_w (x : Int) : Int32.ofInt (w32 x) = Int32.ofInt x := by rw [← w32_eq]; exact Int32.ofInt_toInt _
theorem i64_w (x : Int) : Int64.ofInt (w64 x) = Int64.ofInt x := by rw [← w64_eq]; exact Int64.ofInt_toInt _
theorem v_w32 {E : XE} {M : MI} {d pc : Nat} {L : List (Nat × AV)} {st : List AV} {σ : Sto} {Q : Res → Sto → Prop} {x : Int} (h : VV E M d pc L (aI (w32 x) :: st) σ Q) : VV E M d pc L (aI x :: st) σ Q := by
  have e : (aI x :: st).map (cv E) = (aI (w32 x) :: st).map (cv E) := by
    show Value.int (Int32.ofInt x) :: _ = Value.int (Int32.ofInt (w32 x)) :: _
    rw [i32_w]
  unfold VV at h ⊢
  rw [e]; exact h
theorem v_w64 {E : XE} {M : MI} {d pc : Nat} {L : List (Nat × AV)} {st : List AV} {σ : Sto} {Q : Res → Sto → Prop} {x : Int} (h : VV E M d pc L (aL (w64 x) :: st) σ Q) : VV E M d pc L (aL x :: st) σ Q := by
  have e : (aL x :: st).map (cv E) = (aL (w64 x) :: st).map (cv E) := by
    show Value.long (Int64.ofInt x) :: _ = Value.long (Int64.ofInt (w64 x)) :: _
    rw [i64_w]
  unfold VV at h ⊢
  rw [e]; exact h
theorem w64_add (a b : Int) : w64 (w64 a + b) = w64 (a + b) := by unfold w64; omega
theorem w32_add (a b : Int) : w32 (w32 a + b) = w32 (a + b) := by unfold w32; omega
theorem w32_mul (c a b : Int) : w32 (c * w32 a + b) = w32 (c * a + b) := by
  have : w32 a = a - 4294967296 * ((a + 2147483648) / 4294967296) := by unfold w32; omega
  rw [this]
  have e : c * (a - 4294967296 * ((a + 2147483648) / 4294967296)) + b = (c * a + b) - 4294967296 * (c * ((a + 2147483648) / 4294967296)) := by
    rw [Int.mul_sub, ← Int.mul_assoc, Int.mul_comm c 4294967296, Int.mul_assoc]; omega
  rw [e]
  unfold w32
  omega
theorem and_mask64 (x : Int) (k : Nat) (hk : k ≤ 63) : b64and x (2 ^ k - 1 : Nat) = x % (2 ^ k : Nat) := by
  have hp : 2 ^ k ≤ 2 ^ 63 := Nat.pow_le_pow_right (by omega) hk
  have h0 : 0 < 2 ^ k := Nat.two_pow_pos k
  have hm : (BitVec.ofInt 64 ((2 ^ k - 1 : Nat) : Int)).toNat = 2 ^ k - 1 := by
    have := bv_mod ((2 ^ k - 1 : Nat) : Int) 64
    have h2 : (((2 ^ k - 1 : Nat) : Int)) % (2 ^ 64 : Nat) = ((2 ^ k - 1 : Nat) : Int) := Int.emod_eq_of_lt (by omega) (by omega)
    omega
  have hn : ((BitVec.ofInt 64 x) &&& (BitVec.ofInt 64 ((2 ^ k - 1 : Nat) : Int))).toNat = (BitVec.ofInt 64 x).toNat % 2 ^ k := by
    rw [BitVec.toNat_and, hm]; exact Nat.and_two_pow_sub_one_eq_mod _ _
  have hx := bv_mod x 64
  have hlt : (BitVec.ofInt 64 x).toNat % 2 ^ k < 2 ^ k := Nat.mod_lt _ h0
  show ((BitVec.ofInt 64 x) &&& (BitVec.ofInt 64 ((2 ^ k - 1 : Nat) : Int))).toInt = _
  rw [BitVec.toInt_eq_toNat_of_lt (by rw [hn]; omega), hn]
  rw [Int.natCast_emod, hx]
  exact Int.emod_emod_of_dvd x (by exact_mod_cast Nat.pow_dvd_pow 2 (by omega))
theorem and64_1 (x : Int) : b64and x 1 = x % 2 := and_mask64 x 1 (by omega)
theorem and64_16 (x : Int) : b64and x 65535 = x % 65536 := and_mask64 x 16 (by omega)
theorem and64_32 (x : Int) : b64and x 4294967295 = x % 4294967296 := and_mask64 x 32 (by omega)
theorem or64_8 {x y : Int} (hx : x % 256 = 0) (h0 : 0 ≤ y) (h1 : y < 256) : b64or x y = w64 (x + y) := by
  rw [← w64_eq]
  show (BitVec.ofInt 64 x ||| BitVec.ofInt 64 y).toInt = (BitVec.ofInt 64 (x + y)).toInt
  congr 1
  apply BitVec.eq_of_toNat_eq
  rw [BitVec.toNat_or]
  have hxn := bv_mod x 64
  have hyn := bv_mod y 64
  have hs := bv_mod (x + y) 64
  have hu : (BitVec.ofInt 64 x).toNat = 2 ^ 8 * ((BitVec.ofInt 64 x).toNat / 256) := by omega
  have hy : (BitVec.ofInt 64 y).toNat < 2 ^ 8 := by omega
  rw [hu, ← Nat.two_pow_add_eq_or_of_lt hy]
  omega
theorem or32_8 {x y : Int} (hx : x % 256 = 0) (h0 : 0 ≤ y) (h1 : y < 256) : b32or x y = w32 (x + y) := by
  rw [← w32_eq]
  show (BitVec.ofInt 32 x ||| BitVec.ofInt 32 y).toInt = (BitVec.ofInt 32 (x + y)).toInt
  congr 1
  apply BitVec.eq_of_toNat_eq
  rw [BitVec.toNat_or]
  have hxn := bv_mod x 32
  have hyn := bv_mod y 32
  have hs := bv_mod (x + y) 32
  have hu : (BitVec.ofInt 32 x).toNat = 2 ^ 8 * ((BitVec.ofInt 32 x).toNat / 256) := by omega
  have hy : (BitVec.ofInt 32 y).toNat < 2 ^ 8 := by omega
  rw [hu, ← Nat.two_pow_add_eq_or_of_lt hy]
  omega
theorem or64_16 {x y : Int} (hx : x % 65536 = 0) (h0 : 0 ≤ y) (h1 : y < 65536) : b64or x y = w64 (x + y) := by
  rw [← w64_eq]
  show (BitVec.ofInt 64 x ||| BitVec.ofInt 64 y).toInt = (BitVec.ofInt 64 (x + y)).toInt
  congr 1
  apply BitVec.eq_of_toNat_eq
  rw [BitVec.toNat_or]
  have hxn := bv_mod x 64
  have hyn := bv_mod y 64
  have hs := bv_mod (x + y) 64
  have hu : (BitVec.ofInt 64 x).toNat = 2 ^ 16 * ((BitVec.ofInt 64 x).toNat / 65536) := by omega
  have hy : (BitVec.ofInt 64 y).toNat < 2 ^ 16 := by omega
  rw [hu, ← Nat.two_pow_add_eq_or_of_lt hy]
  omega
theorem or32_16 {x y : Int} (hx : x % 65536 = 0) (h0 : 0 ≤ y) (h1 : y < 65536) : b32or x y = w32 (x + y) := by
  rw [← w32_eq]
  show (BitVec.ofInt 32 x ||| BitVec.ofInt 32 y).toInt = (BitVec.ofInt 32 (x + y)).toInt
  congr 1
  apply BitVec.eq_of_toNat_eq
  rw [BitVec.toNat_or]
  have hxn := bv_mod x 32
  have hyn := bv_mod y 32
  have hs := bv_mod (x + y) 32
  have hu : (BitVec.ofInt 32 x).toNat = 2 ^ 16 * ((BitVec.ofInt 32 x).toNat / 65536) := by omega
  have hy : (BitVec.ofInt 32 y).toNat < 2 ^ 16 := by omega
  rw [hu, ← Nat.two_pow_add_eq_or_of_lt hy]
  omega
theorem or64_32 {x y : Int} (hx : x % 4294967296 = 0) (h0 : 0 ≤ y) (h1 : y < 4294967296) : b64or x y = w64 (x + y) := by
  rw [← w64_eq]
  show (BitVec.ofInt 64 x ||| BitVec.ofInt 64 y).toInt = (BitVec.ofInt 64 (x + y)).toInt
  congr 1
  apply BitVec.eq_of_toNat_eq
  rw [BitVec.toNat_or]
  have hxn := bv_mod x 64
  have hyn := bv_mod y 64
  have hs := bv_mod (x + y) 64
  have hu : (BitVec.ofInt 64 x).toNat = 2 ^ 32 * ((BitVec.ofInt 64 x).toNat / 4294967296) := by omega
  have hy : (BitVec.ofInt 64 y).toNat < 2 ^ 32 := by omega
  rw [hu, ← Nat.two_pow_add_eq_or_of_lt hy]
  omega
theorem or64_48 {x y : Int} (hx : x % 281474976710656 = 0) (h0 : 0 ≤ y) (h1 : y < 281474976710656) : b64or x y = w64 (x + y) := by
  rw [← w64_eq]
  show (BitVec.ofInt 64 x ||| BitVec.ofInt 64 y).toInt = (BitVec.ofInt 64 (x + y)).toInt
  congr 1
  apply BitVec.eq_of_toNat_eq
  rw [BitVec.toNat_or]
  have hxn := bv_mod x 64
  have hyn := bv_mod y 64
  have hs := bv_mod (x + y) 64
  have hu : (BitVec.ofInt 64 x).toNat = 2 ^ 48 * ((BitVec.ofInt 64 x).toNat / 281474976710656) := by omega
  have hy : (BitVec.ofInt 64 y).toNat < 2 ^ 48 := by omega
  rw [hu, ← Nat.two_pow_add_eq_or_of_lt hy]
  omega
theorem shl64_k (x : Int) {k : Int} {p : Int} (hk : inR k) (hp : ((2 ^ (k % 64).toNat : Nat) : Int) = p) : b64shl x k = w64 (x * p) := by rw [shl64 hk, hp]
theorem shl64_16 (x : Int) : b64shl x 16 = w64 (x * 65536) := shl64_k x ⟨by decide, by decide⟩ rfl
theorem shl64_32 (x : Int) : b64shl x 32 = w64 (x * 4294967296) := shl64_k x ⟨by decide, by decide⟩ rfl
theorem shl64_48 (x : Int) : b64shl x 48 = w64 (x * 281474976710656) := shl64_k x ⟨by decide, by decide⟩ rfl
theorem shl64_8 (x : Int) : b64shl x 8 = w64 (x * 256) := shl64_k x ⟨by decide, by decide⟩ rfl
theorem shl32_8 (x : Int) : b32shl x 8 = w32 (x * 256) := shl32 x 8
/-- x, y in one long -/
def pk2 (x y : Int) : Int := x * 4294967296 + y % 4294967296
theorem pk2_eq {x y : Int} (hx : inR x) (hy : inR y) : b64or (b64shl x 32) (b64and y 4294967295) = pk2 x y := by
  have h1 := hx.1; have h2 := hx.2
  rw [shl64_32, and64_32, w64_id (x := x * 4294967296) ⟨by omega, by omega⟩, or64_32 (by omega) (by omega) (by omega), w64_id ⟨by omega, by omega⟩]
  rfl
def pk4 (a b c d : Int) : Int := w64 (a % 65536 * 281474976710656 + b % 65536 * 4294967296 + c % 65536 * 65536 + d % 65536)
theorem pk4_eq (a b c d : Int) : b64or (b64or (b64or (b64shl (b64and a 65535) 48) (b64shl (b64and b 65535) 32)) (b64shl (b64and c 65535) 16)) (b64and d 65535) = pk4 a b c d := by
  rw [and64_16, and64_16, and64_16, and64_16, shl64_48, shl64_32, shl64_16, w64_id (x := b % 65536 * 4294967296) ⟨by omega, by omega⟩, w64_id (x := c % 65536 * 65536) ⟨by omega, by omega⟩]
  rw [or64_48 (x := w64 (a % 65536 * 281474976710656)) (y := b % 65536 * 4294967296) (by unfold w64; omega) (by omega) (by omega), w64_add, or64_32 (x := w64 (a % 65536 * 281474976710656 + b % 65536 * 4294967296)) (y := c % 65536 * 65536) (by unfold w64; omega) (by omega) (by omega), w64_add, or64_16 (x := w64 (a % 65536 * 281474976710656 + b % 65536 * 4294967296 + c % 65536 * 65536)) (by unfold w64; omega) (by omega) (by omega), w64_add]
  rfl
def bt32 (x k : Int) : Prop := (BitVec.ofInt 32 x).getLsbD k.toNat = true
theorem bv_back32 (z : Int32) : BitVec.ofInt 32 z.toInt = z.toBitVec := by
  show BitVec.ofInt 32 z.toBitVec.toInt = _
  exact BitVec.ofInt_toInt
theorem bt32_or (x y k : Int) : bt32 (b32or x y) k ↔ bt32 x k ∨ bt32 y k := by
  unfold bt32 b32or
  rw [bv_back32]
  show ((BitVec.ofInt 32 x) ||| (BitVec.ofInt 32 y)).getLsbD _ = true ↔ _
  rw [BitVec.getLsbD_or]; simp
theorem bt32_and (x y k : Int) : bt32 (b32and x y) k ↔ bt32 x k ∧ bt32 y k := by
  unfold bt32 b32and
  rw [bv_back32]
  show ((BitVec.ofInt 32 x) &&& (BitVec.ofInt 32 y)).getLsbD _ = true ↔ _
  rw [BitVec.getLsbD_and]; simp
theorem bt32_0 (k : Int) : ¬ bt32 0 k := by
  unfold bt32
  have : BitVec.ofInt 32 0 = 0#32 := by decide
  rw [this]; simp
theorem bt32_1 {k j : Int} (hk : 0 ≤ k ∧ k < 32) (hj : 0 ≤ j ∧ j < 32) : bt32 (b32shl 1 k) j ↔ j = k := by
  have e : BitVec.ofInt 32 (b32shl 1 k) = BitVec.twoPow 32 k.toNat := by
    apply BitVec.eq_of_toInt_eq
    rw [shl32, ← w32_eq]
    have hm : k % 32 = k := by omega
    rw [hm, bv_back32]
    show (BitVec.ofInt 32 (1 * (2 ^ k.toNat : Nat))).toInt = _
    congr 1
    apply BitVec.eq_of_toNat_eq
    have h := bv_mod (1 * ((2 ^ k.toNat : Nat) : Int)) 32
    rw [BitVec.toNat_twoPow]
    omega
  unfold bt32
  rw [e, BitVec.getLsbD_twoPow]
  simp
  omega
def bt64 (x k : Int) : Prop := (BitVec.ofInt 64 x).getLsbD k.toNat = true
theorem bv_back64 (z : Int64) : BitVec.ofInt 64 z.toInt = z.toBitVec := by
  show BitVec.ofInt 64 z.toBitVec.toInt = _
  exact BitVec.ofInt_toInt
theorem bt64_or (x y k : Int) : bt64 (b64or x y) k ↔ bt64 x k ∨ bt64 y k := by
  unfold bt64 b64or
  rw [bv_back64]
  show ((BitVec.ofInt 64 x) ||| (BitVec.ofInt 64 y)).getLsbD _ = true ↔ _
  rw [BitVec.getLsbD_or]; simp
theorem bt64_and (x y k : Int) : bt64 (b64and x y) k ↔ bt64 x k ∧ bt64 y k := by
  unfold bt64 b64and
  rw [bv_back64]
  show ((BitVec.ofInt 64 x) &&& (BitVec.ofInt 64 y)).getLsbD _ = true ↔ _
  rw [BitVec.getLsbD_and]; simp
theorem bt64_0 (k : Int) : ¬ bt64 0 k := by
  unfold bt64
  have : BitVec.ofInt 64 0 = 0#64 := by decide
  rw [this]; simp
theorem bt64_1 {k j : Int} (hk : 0 ≤ k ∧ k < 64) (hj : 0 ≤ j ∧ j < 64) : bt64 (b64shl 1 k) j ↔ j = k := by
  have e : BitVec.ofInt 64 (b64shl 1 k) = BitVec.twoPow 64 k.toNat := by
    apply BitVec.eq_of_toInt_eq
    rw [shl64 ⟨by omega, by omega⟩, ← w64_eq]
    have hm : k % 64 = k := by omega
    rw [hm, bv_back64]
    show (BitVec.ofInt 64 (1 * (2 ^ k.toNat : Nat))).toInt = _
    congr 1
    apply BitVec.eq_of_toNat_eq
    have h := bv_mod (1 * ((2 ^ k.toNat : Nat) : Int)) 64
    rw [BitVec.toNat_twoPow]
    omega
  unfold bt64
  rw [e, BitVec.getLsbD_twoPow]
  simp
  omega
theorem bt32_not (x k : Int) (hk : 0 ≤ k ∧ k < 32) : bt32 (b32xor x (-1)) k ↔ ¬ bt32 x k := by
  unfold bt32 b32xor
  rw [bv_back32]
  show ((BitVec.ofInt 32 x) ^^^ (BitVec.ofInt 32 (-1))).getLsbD _ = true ↔ _
  have : BitVec.ofInt 32 (-1) = BitVec.allOnes 32 := by decide
  rw [this, BitVec.getLsbD_xor, BitVec.getLsbD_allOnes]
  have : k.toNat < 32 := by omega
  simp [this]
theorem bt_odd (n k : Nat) : n.testBit k = decide (n / 2 ^ k % 2 = 1) := Nat.testBit_eq_decide_div_mod_eq
theorem bt32_t {x k : Int} (hx : inR x) (hk : 0 ≤ k ∧ k < 32) : b32and (b32shr x k) 1 = 1 ↔ bt32 x k := by
  have e : b32and (b32shr x k) 1 = b32shr x k % 2 := and1 _
  have hm : k % 32 = k := by omega
  have h32 : BitVec.ofInt 32 (b32shr x k) = (BitVec.ofInt 32 x).sshiftRight k.toNat := by
    unfold b32shr
    rw [bv_back32]
    show BitVec.sshiftRight' (BitVec.ofInt 32 x) ((Int32.ofInt k &&& 31).toBitVec.smod 32#32) = _
    rw [BitVec.sshiftRight', cnt32, hm]
  have b0 : bt32 (b32shr x k) 0 ↔ bt32 x k := by
    unfold bt32
    rw [h32, BitVec.getLsbD_sshiftRight]
    have : k.toNat < 32 := by omega
    simp [this]
  have o : (b32shr x k % 2 = 1) ↔ bt32 (b32shr x k) 0 := by
    unfold bt32
    have hb := bv_mod (b32shr x k) 32
    show _ ↔ (BitVec.ofInt 32 (b32shr x k)).toNat.testBit 0 = true
    rw [bt_odd]
    simp
    omega
  rw [e, o, b0]
theorem bt32_f {x k : Int} (hx : inR x) (hk : 0 ≤ k ∧ k < 32) : b32and (b32shr x k) 1 = 0 ↔ ¬ bt32 x k := by
  rw [← bt32_t hx hk]
  have e : b32and (b32shr x k) 1 = b32shr x k % 2 := and1 _
  omega
theorem bt64_t {x k : Int} (hx : inL x) (hk : 0 ≤ k ∧ k < 64) : b64and (b64shr x k) 1 = 1 ↔ bt64 x k := by
  have e : b64and (b64shr x k) 1 = b64shr x k % 2 := and64_1 _
  have hm : k % 64 = k := by omega
  have h32 : BitVec.ofInt 64 (b64shr x k) = (BitVec.ofInt 64 x).sshiftRight k.toNat := by
    unfold b64shr
    rw [bv_back64]
    show BitVec.sshiftRight' (BitVec.ofInt 64 x) (((Int32.ofInt k).toInt64 &&& 63).toBitVec.smod 64#64) = _
    rw [BitVec.sshiftRight', cnt64 k ⟨by omega, by omega⟩, hm]
  have b0 : bt64 (b64shr x k) 0 ↔ bt64 x k := by
    unfold bt64
    rw [h32, BitVec.getLsbD_sshiftRight]
    have : k.toNat < 64 := by omega
    simp [this]
  have o : (b64shr x k % 2 = 1) ↔ bt64 (b64shr x k) 0 := by
    unfold bt64
    have hb := bv_mod (b64shr x k) 64
    show _ ↔ (BitVec.ofInt 64 (b64shr x k)).toNat.testBit 0 = true
    rw [bt_odd]
    simp
    omega
  rw [e, o, b0]
theorem bt64_f {x k : Int} (hx : inL x) (hk : 0 ≤ k ∧ k < 64) : b64and (b64shr x k) 1 = 0 ↔ ¬ bt64 x k := by
  rw [← bt64_t hx hk]
  have e : b64and (b64shr x k) 1 = b64shr x k % 2 := and64_1 _
  omega
theorem or_zz {x y : Int} (hx : 0 ≤ x) (hx1 : x ≤ 1) (hy : 0 ≤ y) (hy1 : y ≤ 1) : b32or x y = if x = 1 ∨ y = 1 then 1 else 0 := by
  have a : x = 0 ∨ x = 1 := by omega
  have b : y = 0 ∨ y = 1 := by omega
  rcases a with rfl | rfl <;> rcases b with rfl | rfl <;> decide
theorem and_zz {x y : Int} (hx : 0 ≤ x) (hx1 : x ≤ 1) (hy : 0 ≤ y) (hy1 : y ≤ 1) : b32and x y = if x = 1 ∧ y = 1 then 1 else 0 := by
  have a : x = 0 ∨ x = 1 := by omega
  have b : y = 0 ∨ y = 1 := by omega
  rcases a with rfl | rfl <;> rcases b with rfl | rfl <;> decide
