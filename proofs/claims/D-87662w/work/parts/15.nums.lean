/-! numbers: an int and a long as the bits they are -/
def u32 (x : Int32) : Nat := x.toBitVec.toNat
def u64 (x : Int64) : Nat := x.toBitVec.toNat
theorem u32_lt (x : Int32) : u32 x < 2 ^ 32 := x.toBitVec.isLt
theorem u64_lt (x : Int64) : u64 x < 2 ^ 64 := x.toBitVec.isLt
theorem u32_inj {x y : Int32} (h : u32 x = u32 y) : x = y := Int32.toBitVec_inj.mp (BitVec.eq_of_toNat_eq h)
theorem u64_inj {x y : Int64} (h : u64 x = u64 y) : x = y := Int64.toBitVec_inj.mp (BitVec.eq_of_toNat_eq h)
theorem u32_ofNat (n : Nat) : u32 (Int32.ofNat n) = n % 2 ^ 32 := by
  show (Int32.ofNat n).toBitVec.toNat = _
  rw [Int32.toBitVec_ofNat', BitVec.toNat_ofNat]
theorem u64_ofNat (n : Nat) : u64 (Int64.ofNat n) = n % 2 ^ 64 := by
  show (Int64.ofNat n).toBitVec.toNat = _
  rw [Int64.toBitVec_ofNat', BitVec.toNat_ofNat]
theorem ofNat_u32 (x : Int32) : Int32.ofNat (u32 x) = x := u32_inj (by rw [u32_ofNat, Nat.mod_eq_of_lt (u32_lt x)])
theorem ofNat_u64 (x : Int64) : Int64.ofNat (u64 x) = x := u64_inj (by rw [u64_ofNat, Nat.mod_eq_of_lt (u64_lt x)])
theorem u32_add (x y : Int32) : u32 (x + y) = (u32 x + u32 y) % 2 ^ 32 := by
  show (x + y).toBitVec.toNat = _
  rw [Int32.toBitVec_add, BitVec.toNat_add]; rfl
theorem u64_add (x y : Int64) : u64 (x + y) = (u64 x + u64 y) % 2 ^ 64 := by
  show (x + y).toBitVec.toNat = _
  rw [Int64.toBitVec_add, BitVec.toNat_add]; rfl
theorem u32_mul (x y : Int32) : u32 (x * y) = u32 x * u32 y % 2 ^ 32 := by
  show (x * y).toBitVec.toNat = _
  rw [Int32.toBitVec_mul, BitVec.toNat_mul]; rfl
theorem u64_mul (x y : Int64) : u64 (x * y) = u64 x * u64 y % 2 ^ 64 := by
  show (x * y).toBitVec.toNat = _
  rw [Int64.toBitVec_mul, BitVec.toNat_mul]; rfl
theorem u64_sub (x y : Int64) : u64 (x - y) = (2 ^ 64 - u64 y + u64 x) % 2 ^ 64 := by
  show (x - y).toBitVec.toNat = _
  rw [Int64.toBitVec_sub, BitVec.toNat_sub]; rfl
theorem u32_sub (x y : Int32) : u32 (x - y) = (2 ^ 32 - u32 y + u32 x) % 2 ^ 32 := by
  show (x - y).toBitVec.toNat = _
  rw [Int32.toBitVec_sub, BitVec.toNat_sub]; rfl
theorem u32_neg (x : Int32) : u32 (-x) = (2 ^ 32 - u32 x) % 2 ^ 32 := by
  show (-x).toBitVec.toNat = _
  rw [Int32.toBitVec_neg, BitVec.toNat_neg]; rfl
theorem u32_toInt32 (x : Int64) : u32 x.toInt32 = u64 x % 2 ^ 32 := by
  show (x.toInt32).toBitVec.toNat = _
  rw [Int64.toBitVec_toInt32, BitVec.signExtend_eq_setWidth_of_le _ (by decide), BitVec.toNat_setWidth]; rfl
/-- the value of an int in a long, its sign cut off -/
theorem u64_low (x : Int32) : u64 (x.toInt64 &&& 4294967295) = u32 x := by
  show (x.toInt64 &&& 4294967295).toBitVec.toNat = x.toBitVec.toNat
  rw [Int64.toBitVec_and, Int32.toBitVec_toInt64, BitVec.toNat_and]
  have h1 : (4294967295 : Int64).toBitVec.toNat = 2 ^ 32 - 1 := by decide
  rw [h1, Nat.and_two_pow_sub_one_eq_mod, ← BitVec.toNat_setWidth]
  congr 1
  apply BitVec.eq_of_getLsbD_eq
  intro i hi
  simp [BitVec.getLsbD_setWidth, BitVec.getLsbD_signExtend, hi]
  omega
theorem toInt_u64 (x : Int64) : x.toInt = if u64 x < 2 ^ 63 then (u64 x : Int) else (u64 x : Int) - 2 ^ 64 := by
  show x.toBitVec.toInt = _
  rw [BitVec.toInt_eq_toNat_cond]
  show (if 2 * u64 x < 2 ^ 64 then _ else _) = _
  by_cases h : u64 x < 2 ^ 63
  · rw [if_pos h, if_pos (by omega)]; rfl
  · rw [if_neg h, if_neg (by omega)]; rfl
theorem toInt_u32 (x : Int32) : x.toInt = if u32 x < 2 ^ 31 then (u32 x : Int) else (u32 x : Int) - 2 ^ 32 := by
  show x.toBitVec.toInt = _
  rw [BitVec.toInt_eq_toNat_cond]
  show (if 2 * u32 x < 2 ^ 32 then _ else _) = _
  by_cases h : u32 x < 2 ^ 31
  · rw [if_pos h, if_pos (by omega)]; rfl
  · rw [if_neg h, if_neg (by omega)]; rfl
theorem low_toInt (x : Int32) : (x.toInt64 &&& 4294967295).toInt = (u32 x : Int) := by
  have h1 := u64_low x
  have h2 := u32_lt x
  rw [toInt_u64, h1, if_pos (by omega)]
theorem l_add {x y : Int64} (h1 : -2 ^ 63 ≤ x.toInt + y.toInt) (h2 : x.toInt + y.toInt < 2 ^ 63) : (x + y).toInt = x.toInt + y.toInt := by
  rw [Int64.toInt_add, Int.bmod_eq_of_le (by omega) (by omega)]
theorem l_sub {x y : Int64} (h1 : -2 ^ 63 ≤ x.toInt - y.toInt) (h2 : x.toInt - y.toInt < 2 ^ 63) : (x - y).toInt = x.toInt - y.toInt := by
  rw [Int64.toInt_sub, Int.bmod_eq_of_le (by omega) (by omega)]
/-- the upper half of a long, its sign kept, and its lower half -/
theorem l_hi (x : Int64) : (x >>> ((32 : Int32).toInt64 &&& 63)).toInt = x.toInt / 2 ^ 32 := by
  show (x >>> ((32 : Int32).toInt64 &&& 63)).toBitVec.toInt = _
  have h : ((32 : Int32).toInt64 &&& 63) = 32 := by decide
  rw [h, Int64.toBitVec_shiftRight, BitVec.toInt_sshiftRight']
  have h2 : ((32 : Int64).toBitVec.smod 64).toNat = 32 := by decide
  rw [h2, Int.shiftRight_eq_div_pow]
  rfl
theorem l_lo (x : Int64) : (u32 x.toInt32 : Int) = x.toInt % 2 ^ 32 := by
  rw [u32_toInt32, toInt_u64]
  have := u64_lt x
  split <;> omega
theorem u64_hi (x : Int64) : u64 ((x.toUInt64 >>> ((32 : Int32).toInt64.toUInt64 &&& Int64.toUInt64 63)).toInt64) = u64 x / 2 ^ 32 := by
  have h : ((32 : Int32).toInt64.toUInt64 &&& Int64.toUInt64 63) = 32 := by decide
  rw [h]
  show (x.toUInt64 >>> 32).toInt64.toBitVec.toNat = _
  show (x.toUInt64 >>> 32).toBitVec.toNat = _
  rw [UInt64.toBitVec_shiftRight, BitVec.ushiftRight_eq', BitVec.toNat_ushiftRight]
  have h2 : ((32 : UInt64).toBitVec % 64).toNat = 32 := by decide
  rw [h2, Nat.shiftRight_eq_div_pow]
  rfl
/-- the number that limbs make, the lowest first -/
def V : Nat → (Nat → Int32) → Nat
  | 0, _ => 0
  | n + 1, f => V n f + u32 (f n) * 2 ^ (32 * n)
theorem V_lt (n : Nat) (f : Nat → Int32) : V n f < 2 ^ (32 * n) := by
  induction n with
  | zero => show 0 < 2 ^ (32 * 0); decide
  | succ n ih =>
    have h := u32_lt (f n)
    show V n f + u32 (f n) * 2 ^ (32 * n) < 2 ^ (32 * (n + 1))
    have e : 2 ^ (32 * (n + 1)) = 2 ^ 32 * 2 ^ (32 * n) := by rw [← Nat.pow_add]; congr 1; omega
    rw [e]
    calc V n f + u32 (f n) * 2 ^ (32 * n) < 2 ^ (32 * n) + u32 (f n) * 2 ^ (32 * n) := by omega
      _ = (u32 (f n) + 1) * 2 ^ (32 * n) := by rw [Nat.add_mul, Nat.one_mul, Nat.add_comm]
      _ ≤ 2 ^ 32 * 2 ^ (32 * n) := Nat.mul_le_mul_right _ (by omega)
theorem V_congr {n : Nat} {f f' : Nat → Int32} (h : ∀ j, j < n → f j = f' j) : V n f = V n f' := by
  induction n with
  | zero => rfl
  | succ n ih =>
    show V n f + _ = V n f' + _
    rw [ih (fun j hj => h j (by omega)), h n (by omega)]
/-- the limbs of a number -/
def lim (v : Nat) : Nat → Int32 := fun k => Int32.ofNat (v / 2 ^ (32 * k))
theorem u32_lim (v k : Nat) : u32 (lim v k) = v / 2 ^ (32 * k) % 2 ^ 32 := u32_ofNat _
theorem V_lim (n v : Nat) : V n (lim v) = v % 2 ^ (32 * n) := by
  induction n with
  | zero => show 0 = v % 2 ^ (32 * 0); rw [Nat.mul_zero, Nat.pow_zero, Nat.mod_one]
  | succ n ih =>
    show V n (lim v) + u32 (lim v n) * 2 ^ (32 * n) = _
    rw [ih, u32_lim]
    have e : 2 ^ (32 * (n + 1)) = 2 ^ (32 * n) * 2 ^ 32 := by rw [← Nat.pow_add]; congr 1
    rw [e, Nat.mod_mul]
    rw [Nat.mul_comm (v / 2 ^ (32 * n) % 2 ^ 32)]
theorem lim_V {n : Nat} (f : Nat → Int32) {j : Nat} (hj : j < n) : lim (V n f) j = f j := by
  apply u32_inj
  rw [u32_lim]
  induction n with
  | zero => omega
  | succ n ih =>
    have hl := V_lt n f
    have hu := u32_lt (f n)
    show (V n f + u32 (f n) * 2 ^ (32 * n)) / 2 ^ (32 * j) % 2 ^ 32 = u32 (f j)
    by_cases hjn : j = n
    · subst hjn
      rw [Nat.add_mul_div_right _ _ (Nat.two_pow_pos _), Nat.div_eq_of_lt hl, Nat.zero_add, Nat.mod_eq_of_lt hu]
    · have hj2 : j < n := by omega
      have e : u32 (f n) * 2 ^ (32 * n) = u32 (f n) * 2 ^ (32 * (n - j - 1)) * 2 ^ 32 * 2 ^ (32 * j) := by
        rw [Nat.mul_assoc, Nat.mul_assoc, ← Nat.pow_add, ← Nat.pow_add]
        congr 2
        omega
      rw [e, Nat.add_mul_div_right _ _ (Nat.two_pow_pos _), Nat.add_mul_mod_self_right]
      exact ih hj2
theorem V_inj {n : Nat} {f f' : Nat → Int32} (h : V n f = V n f') : ∀ j, j < n → f j = f' j := fun j hj => by
  rw [← lim_V f hj, ← lim_V f' hj, h]
