/-! numbers: what the operations on bits are as arithmetic -/
theorem i32_bv (x : Int) : (Int32.ofInt x).toBitVec = BitVec.ofInt 32 x := rfl
theorem i32_int (z : Int32) : z.toInt = z.toBitVec.toInt := rfl
theorem i64_int (z : Int64) : z.toInt = z.toBitVec.toInt := rfl
theorem bv_mod (x : Int) (w : Nat) : ((BitVec.ofInt w x).toNat : Int) = x % (2 ^ w : Nat) := by
  rw [BitVec.toNat_ofInt]
  exact Int.toNat_of_nonneg (Int.emod_nonneg _ (by have := Nat.two_pow_pos w; omega))
theorem and_mask (x : Int) (k : Nat) (hk : k ≤ 31) : b32and x (2 ^ k - 1 : Nat) = x % (2 ^ k : Nat) := by
  have hp : 2 ^ k ≤ 2 ^ 31 := Nat.pow_le_pow_right (by omega) hk
  have h0 : 0 < 2 ^ k := Nat.two_pow_pos k
  have hm : (BitVec.ofInt 32 ((2 ^ k - 1 : Nat) : Int)).toNat = 2 ^ k - 1 := by
    have := bv_mod ((2 ^ k - 1 : Nat) : Int) 32
    have h2 : (((2 ^ k - 1 : Nat) : Int)) % (2 ^ 32 : Nat) = ((2 ^ k - 1 : Nat) : Int) := Int.emod_eq_of_lt (by omega) (by omega)
    omega
  have hn : ((BitVec.ofInt 32 x) &&& (BitVec.ofInt 32 ((2 ^ k - 1 : Nat) : Int))).toNat = (BitVec.ofInt 32 x).toNat % 2 ^ k := by
    rw [BitVec.toNat_and, hm]; exact Nat.and_two_pow_sub_one_eq_mod _ _
  have hx := bv_mod x 32
  have hlt : (BitVec.ofInt 32 x).toNat % 2 ^ k < 2 ^ k := Nat.mod_lt _ h0
  show ((BitVec.ofInt 32 x) &&& (BitVec.ofInt 32 ((2 ^ k - 1 : Nat) : Int))).toInt = _
  rw [BitVec.toInt_eq_toNat_of_lt (by rw [hn]; omega), hn]
  rw [Int.natCast_emod, hx]
  exact Int.emod_emod_of_dvd x (by exact_mod_cast Nat.pow_dvd_pow 2 (by omega))
theorem and1 (x : Int) : b32and x 1 = x % 2 := and_mask x 1 (by omega)
theorem and31 (x : Int) : b32and x 31 = x % 32 := and_mask x 5 (by omega)
theorem and63 (x : Int) : b32and x 63 = x % 64 := and_mask x 6 (by omega)
theorem and255 (x : Int) : b32and x 255 = x % 256 := and_mask x 8 (by omega)
theorem and8191 (x : Int) : b32and x 8191 = x % 8192 := and_mask x 13 (by omega)
theorem and65535 (x : Int) : b32and x 65535 = x % 65536 := and_mask x 16 (by omega)
theorem sx8_eq (x : Int) : sx8 x = (x + 128) % 256 - 128 := by
  show (BitVec.signExtend 8 (BitVec.ofInt 32 x)).toInt = _
  rw [BitVec.toInt_signExtend]
  have h1 : min 8 32 = 8 := rfl
  rw [h1, BitVec.toInt_ofInt]
  simp only [Int.bmod_def]
  omega
theorem sx16_eq (x : Int) : sx16 x = (x + 32768) % 65536 - 32768 := by
  show (BitVec.signExtend 16 (BitVec.ofInt 32 x)).toInt = _
  rw [BitVec.toInt_signExtend]
  have h1 : min 16 32 = 16 := rfl
  rw [h1, BitVec.toInt_ofInt]
  simp only [Int.bmod_def]
  omega
theorem sx8_id {x : Int} (h1 : -128 ≤ x) (h2 : x ≤ 127) : sx8 x = x := by rw [sx8_eq]; omega
theorem sx16_id {x : Int} (h1 : -32768 ≤ x) (h2 : x ≤ 32767) : sx16 x = x := by rw [sx16_eq]; omega
theorem i32_id {x : Int} (h : inR x) : (Int32.ofInt x).toInt = x := by
  have h1 := h.1; have h2 := h.2
  show (BitVec.ofInt 32 x).toInt = x
  rw [BitVec.toInt_ofInt]; simp only [Int.bmod_def]; omega
theorem i64_id {x : Int} (h : inL x) : (Int64.ofInt x).toInt = x := by
  have h1 := h.1; have h2 := h.2
  show (BitVec.ofInt 64 x).toInt = x
  rw [BitVec.toInt_ofInt]; simp only [Int.bmod_def]; omega
theorem smod32 : ∀ j : Fin 32, ((BitVec.ofNat 32 j.1).smod 32#32).toNat = j.1 := by decide
theorem smod64 : ∀ j : Fin 64, ((BitVec.ofNat 64 j.1).smod 64#64).toNat = j.1 := by decide
theorem cnt32 (k : Int) : ((Int32.ofInt k &&& 31).toBitVec.smod 32#32).toNat = (k % 32).toNat := by
  have h := and_mask k 5 (by omega)
  have e1 : ((Int32.ofInt k &&& 31).toBitVec).toNat = (k % 32).toNat := by
    have hn : ((BitVec.ofInt 32 k) &&& 31#32).toNat = (BitVec.ofInt 32 k).toNat % 2 ^ 5 := by
      rw [BitVec.toNat_and]; exact Nat.and_two_pow_sub_one_eq_mod _ 5
    have hx := bv_mod k 32
    show ((BitVec.ofInt 32 k) &&& 31#32).toNat = _
    rw [hn]; omega
  have hlt : (k % 32).toNat < 32 := by omega
  have e2 : (Int32.ofInt k &&& 31).toBitVec = BitVec.ofNat 32 (k % 32).toNat := by
    apply BitVec.eq_of_toNat_eq; rw [e1, BitVec.toNat_ofNat]; omega
  rw [e2]; exact smod32 ⟨_, hlt⟩
theorem cnt64 (k : Int) (hk : inR k) : (((Int32.ofInt k).toInt64 &&& 63).toBitVec.smod 64#64).toNat = (k % 64).toNat := by
  have e0 : (Int32.ofInt k).toInt64.toBitVec = BitVec.ofInt 64 k := by
    show (BitVec.ofInt 32 k).signExtend 64 = _
    apply BitVec.eq_of_toInt_eq
    have h1 := hk.1; have h2 := hk.2
    rw [BitVec.toInt_signExtend_of_le (by omega), BitVec.toInt_ofInt, BitVec.toInt_ofInt]; simp only [Int.bmod_def]; omega
  have e1 : (((Int32.ofInt k).toInt64 &&& 63).toBitVec).toNat = (k % 64).toNat := by
    have hn : ((BitVec.ofInt 64 k) &&& 63#64).toNat = (BitVec.ofInt 64 k).toNat % 2 ^ 6 := by
      rw [BitVec.toNat_and]; exact Nat.and_two_pow_sub_one_eq_mod _ 6
    have hx := bv_mod k 64
    show ((Int32.ofInt k).toInt64.toBitVec &&& 63#64).toNat = _
    rw [e0, hn]; omega
  have hlt : (k % 64).toNat < 64 := by omega
  have e2 : ((Int32.ofInt k).toInt64 &&& 63).toBitVec = BitVec.ofNat 64 (k % 64).toNat := by
    apply BitVec.eq_of_toNat_eq; rw [e1, BitVec.toNat_ofNat]; omega
  rw [e2]; exact smod64 ⟨_, hlt⟩
theorem shr32 {x : Int} (k : Int) (hx : inR x) : b32shr x k = x / (2 ^ (k % 32).toNat : Nat) := by
  show (BitVec.sshiftRight' (BitVec.ofInt 32 x) ((Int32.ofInt k &&& 31).toBitVec.smod 32#32)).toInt = _
  rw [BitVec.sshiftRight', cnt32, BitVec.toInt_sshiftRight, Int.shiftRight_eq_div_pow]
  congr 1
  exact i32_id hx
theorem shr64 {x k : Int} (hx : inL x) (hk : inR k) : b64shr x k = x / (2 ^ (k % 64).toNat : Nat) := by
  show (BitVec.sshiftRight' (BitVec.ofInt 64 x) (((Int32.ofInt k).toInt64 &&& 63).toBitVec.smod 64#64)).toInt = _
  rw [BitVec.sshiftRight', cnt64 k hk, BitVec.toInt_sshiftRight, Int.shiftRight_eq_div_pow]
  congr 1
  exact i64_id hx
/-- an int, a long as they wrap -/
def w32 (x : Int) : Int := (x + 2147483648) % 4294967296 - 2147483648
def w64 (x : Int) : Int := (x + 9223372036854775808) % 18446744073709551616 - 9223372036854775808
theorem w32_eq (x : Int) : (Int32.ofInt x).toInt = w32 x := by
  show (BitVec.ofInt 32 x).toInt = _
  rw [BitVec.toInt_ofInt]; simp only [Int.bmod_def, w32]; omega
theorem w64_eq (x : Int) : (Int64.ofInt x).toInt = w64 x := by
  show (BitVec.ofInt 64 x).toInt = _
  rw [BitVec.toInt_ofInt]; simp only [Int.bmod_def, w64]; omega
theorem w32_in (x : Int) : inR (w32 x) := ⟨by unfold w32; omega, by unfold w32; omega⟩
theorem w64_in (x : Int) : inL (w64 x) := ⟨by unfold w64; omega, by unfold w64; omega⟩
theorem w32_id {x : Int} (h : inR x) : w32 x = x := by have h1 := h.1; have h2 := h.2; unfold w32; omega
theorem w64_id {x : Int} (h : inL x) : w64 x = x := by have h1 := h.1; have h2 := h.2; unfold w64; omega
theorem shl32 (x k : Int) : b32shl x k = w32 (x * (2 ^ (k % 32).toNat : Nat)) := by
  rw [← w32_eq]
  show (BitVec.shiftLeft (BitVec.ofInt 32 x) ((Int32.ofInt k &&& 31).toBitVec.smod 32#32).toNat).toInt = (BitVec.ofInt 32 (x * (2 ^ (k % 32).toNat : Nat))).toInt
  rw [cnt32]
  congr 1
  show (BitVec.ofInt 32 x) <<< (k % 32).toNat = _
  rw [BitVec.shiftLeft_eq_mul_twoPow, BitVec.ofInt_mul]
  congr 1
  apply BitVec.eq_of_toNat_eq
  have h := bv_mod ((2 ^ (k % 32).toNat : Nat) : Int) 32
  rw [BitVec.toNat_twoPow]
  omega
theorem shl64 {x k : Int} (hk : inR k) : b64shl x k = w64 (x * (2 ^ (k % 64).toNat : Nat)) := by
  rw [← w64_eq]
  show (BitVec.shiftLeft (BitVec.ofInt 64 x) (((Int32.ofInt k).toInt64 &&& 63).toBitVec.smod 64#64).toNat).toInt = (BitVec.ofInt 64 (x * (2 ^ (k % 64).toNat : Nat))).toInt
  rw [cnt64 k hk]
  congr 1
  show (BitVec.ofInt 64 x) <<< (k % 64).toNat = _
  rw [BitVec.shiftLeft_eq_mul_twoPow, BitVec.ofInt_mul]
  congr 1
  apply BitVec.eq_of_toNat_eq
  have h := bv_mod ((2 ^ (k % 64).toNat : Nat) : Int) 64
  rw [BitVec.toNat_twoPow]
  omega
theorem sx8_sx8 (x : Int) : sx8 (sx8 x) = sx8 x := by rw [sx8_eq (sx8 x), sx8_eq x]; omega
theorem sx16_sx16 (x : Int) : sx16 (sx16 x) = sx16 x := by rw [sx16_eq (sx16 x), sx16_eq x]; omega
