set_option maxRecDepth 100000
theorem i2l_nI {n : Nat} (h : n < 2 ^ 31) : (nI n).toInt64 = lN n := by
  apply Int64.toInt_inj.mp
  rw [Int32.toInt_toInt64, nI_toInt h, pk_lT (by omega)]
theorem lshr_lN {n k : Nat} (hn : n < 2 ^ 63) (s : Int64) (hs : (s.toBitVec.smod 64).toNat = k) : lN n >>> s = lN (n / 2 ^ k) := by
  apply Int64.toInt_inj.mp
  have hd : n / 2 ^ k ≤ n := Nat.div_le_self _ _
  rw [pk_lT (by omega)]
  show (lN n >>> s).toBitVec.toInt = _
  rw [Int64.toBitVec_shiftRight, BitVec.toInt_sshiftRight', hs, Int.shiftRight_eq_div_pow]
  have e : (lN n).toBitVec.toInt = (n : Int) := pk_lT hn
  rw [e]
  push_cast
  rfl
theorem ls_n : ∀ k, k < 64 → (((nI k).toInt64 &&& 63).toBitVec.smod 64).toNat = k := by decide
theorem i_shr3 {k : Nat} (h : k < 2 ^ 31) : nI k >>> ((3 : Int32) &&& 31) = nI (k / 8) := pk_shrN h _ 3 (by decide)
theorem i_and7 {k : Nat} (h : k < 2 ^ 31) : nI k &&& 7 = nI (k % 8) := pk_andN (by omega) 3 (by decide)
