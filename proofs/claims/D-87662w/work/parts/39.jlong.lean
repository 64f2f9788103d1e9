set_option maxRecDepth 100000
/-! Long.divideUnsigned, remainderUnsigned, compareUnsigned -/
theorem u64_lN {n : Nat} (h : n < 2 ^ 64) : u64 (lN n) = n := by
  show u64 (Int64.ofNat n) = n
  rw [u64_ofNat, Nat.mod_eq_of_lt h]
theorem lN_u64 (x : Int64) : lN (u64 x) = x := ofNat_u64 x
theorem u64_ush (x : Int64) {k : Nat} (s : UInt64) (hs : s.toNat % 64 = k) : u64 ((x.toUInt64 >>> s).toInt64) = u64 x / 2 ^ k := by
  show (x.toUInt64 >>> s).toInt64.toBitVec.toNat = _
  show (x.toUInt64 >>> s).toBitVec.toNat = _
  rw [UInt64.toBitVec_shiftRight, BitVec.ushiftRight_eq', BitVec.toNat_ushiftRight, Nat.shiftRight_eq_div_pow]
  have : (s.toBitVec % 64).toNat = k := by rw [← hs]; rfl
  rw [this]
  rfl
theorem lN_ush {n k : Nat} (hn : n < 2 ^ 64) (s : UInt64) (hs : s.toNat % 64 = k) : ((lN n).toUInt64 >>> s).toInt64 = lN (n / 2 ^ k) := by
  apply u64_inj
  rw [u64_ush _ s hs, u64_lN hn, u64_lN (Nat.lt_of_le_of_lt (Nat.div_le_self _ _) hn)]
theorem u64_shl (x : Int64) {k : Nat} (s : Int64) (hs : (s.toBitVec.smod 64).toNat = k) : u64 (x <<< s) = u64 x * 2 ^ k % 2 ^ 64 := by
  show (x <<< s).toBitVec.toNat = _
  rw [Int64.toBitVec_shiftLeft, BitVec.shiftLeft_eq', BitVec.toNat_shiftLeft, hs, Nat.shiftLeft_eq]
  rfl
theorem lN_shl {n k : Nat} (s : Int64) (hs : (s.toBitVec.smod 64).toNat = k) (hn : n * 2 ^ k < 2 ^ 64) : lN n <<< s = lN (n * 2 ^ k) := by
  apply u64_inj
  have h0 : n < 2 ^ 64 := Nat.lt_of_le_of_lt (Nat.le_mul_of_pos_right n (Nat.two_pow_pos k)) hn
  rw [u64_shl _ s hs, u64_lN h0, u64_lN hn, Nat.mod_eq_of_lt hn]
theorem l_sar (x : Int64) {k : Nat} (s : Int64) (hs : (s.toBitVec.smod 64).toNat = k) : (x >>> s).toInt = x.toInt / 2 ^ k := by
  show (x >>> s).toBitVec.toInt = _
  rw [Int64.toBitVec_shiftRight, BitVec.toInt_sshiftRight', hs, Int.shiftRight_eq_div_pow]
  push_cast
  rfl
theorem xm1 (x : Int64) : (x ^^^ (-1)).toInt = -x.toInt - 1 := by
  have h : (x ^^^ (-1)).toBitVec = ~~~x.toBitVec := by
    rw [Int64.toBitVec_xor]
    show x.toBitVec ^^^ BitVec.allOnes 64 = _
    rw [BitVec.xor_allOnes]
  show (x ^^^ (-1)).toBitVec.toInt = _
  rw [h, BitVec.toInt_not]
  have h1 : x.toBitVec.toInt = x.toInt := rfl
  have h2 := toInt_u64 x
  have h3 := u64_lt x
  have h4 : x.toBitVec.toNat = u64 x := rfl
  rw [h4]
  rw [h2]
  split
  · rename_i c
    rw [Int.bmod_eq_emod]
    split <;> omega
  · rename_i c
    rw [Int.bmod_eq_emod]
    split <;> omega
theorem u64_neg {x : Int64} (h : x.toInt < 0) : 2 ^ 63 ≤ u64 x := by
  rw [toInt_u64] at h
  have := u64_lt x
  split at h <;> omega
theorem u64_nn {x : Int64} (h : 0 ≤ x.toInt) : u64 x < 2 ^ 63 := by
  rw [toInt_u64] at h
  have := u64_lt x
  split at h
  · assumption
  · omega
theorem u64_or (x y : Int64) : u64 (x ||| y) = u64 x ||| u64 y := by
  show (x ||| y).toBitVec.toNat = _
  rw [Int64.toBitVec_or, BitVec.toNat_or]
  rfl
theorem div_two {a d : Nat} (h0 : 0 < d) : a / d = 2 * (a / 2 / d) + (if d ≤ a - 2 * (a / 2 / d) * d then 1 else 0) ∧ 2 * (a / 2 / d) * d ≤ a ∧ a - 2 * (a / 2 / d) * d < 2 * d := by
  have h1 := Nat.div_add_mod (a / 2) d
  have h2 := Nat.mod_lt (a / 2) h0
  generalize a / 2 / d = t at *
  have e : 2 * t * d = 2 * (d * t) := by rw [Nat.mul_assoc, Nat.mul_comm t d]
  rw [e]
  generalize hz : d * t = z at *
  refine ⟨?_, by omega, by omega⟩
  by_cases c : d ≤ a - 2 * z
  · rw [if_pos c]
    have e2 : d * (2 * t + 1) = 2 * z + d := by rw [Nat.mul_add, Nat.mul_left_comm, hz, Nat.mul_one]
    have e3 : d * (2 * t + 1 + 1) = 2 * z + d + d := by rw [Nat.mul_add, e2, Nat.mul_one]
    exact Nat.div_eq_of_lt_le (by rw [Nat.mul_comm, e2]; omega) (by rw [Nat.mul_comm, e3]; omega)
  · rw [if_neg c]
    have e2 : d * (2 * t) = 2 * z := by rw [Nat.mul_left_comm, hz]
    have e3 : d * (2 * t + 0 + 1) = 2 * z + d := by rw [Nat.mul_add, Nat.mul_add, e2]; omega
    exact Nat.div_eq_of_lt_le (by rw [Nat.add_zero, Nat.mul_comm, e2]; omega) (by rw [Nat.mul_comm, e3]; omega)
theorem ldivU_ok (g : GX) (h : AH) {a d : Nat} (ha : a < 2 ^ 64) (h0 : 0 < d) (hd : d < 2 ^ 32) : MT g MJ8_divideUnsigned ({ frames := 0, cells := 0, slots := 0, locals := 0 } : Room) [.long (lN a), .long (lN d)] h (RL fun r h' => r = lN (a / d) ∧ h' = h) := by
  refine MT.of (by decide) (Nat.le_of_ble_eq_true rfl) ?_
  obtain ⟨k1, k2, k3⟩ := div_two (a := a) h0
  refine X_lload_n (pc := 0) 1 dJ8_divideUnsigned_0 rfl rfl ?_
  refine X_lconst (pc := 1) (x := 0) dJ8_divideUnsigned_1 (by decide) ?_
  refine X_lcmp (pc := 2) dJ8_divideUnsigned_2 ?_
  refine X_if_lt (pc := 3) 41 dJ8_divideUnsigned_3 (by decide) (fun c_3 => ?_) (fun c_3 => ?_)
  · have := (lg_cmp_lt _ _).mp c_3
    rw [show (0 : Int64) = lN 0 from rfl, pk_lLT (by omega) (by omega)] at this
    omega
  · skip
    refine X_lload_n (pc := 6) 0 dJ8_divideUnsigned_6 rfl rfl ?_
    refine X_iconst (pc := 7) (x := 1) dJ8_divideUnsigned_7 (by decide) ?_
    refine X_lushr (pc := 8) dJ8_divideUnsigned_8 ?_
    rw [lN_ush (k := 1) ha _ (by decide)]
    refine X_lload_n (pc := 9) 1 dJ8_divideUnsigned_9 rfl rfl ?_
    refine X_ldiv (pc := 10) dJ8_divideUnsigned_10 (fun z => by have := (pk_lEQ (a := d) (b := 0) (by omega) (by omega)).mp z; omega) ?_
    rw [pk_lDiv (by omega) h0 (by omega), Nat.pow_one]
    refine X_iconst (pc := 11) (x := 1) dJ8_divideUnsigned_11 (by decide) ?_
    refine X_lshl (pc := 12) dJ8_divideUnsigned_12 ?_
    have hq : a / 2 / d * 2 ^ 1 < 2 ^ 64 := by
      have : a / 2 / d ≤ a / 2 := Nat.div_le_self _ _
      omega
    rw [lN_shl (k := 1) _ (by decide) hq, Nat.pow_one, Nat.mul_comm]
    refine X_lstore (pc := 13) (L' := [(4, .long _), (0, .long _), (2, .long _)]) dJ8_divideUnsigned_13 (Nat.le_of_ble_eq_true rfl) rfl ?_
    refine X_lload_n (pc := 15) 1 dJ8_divideUnsigned_15 rfl rfl ?_
    refine X_lload (pc := 16) 0 dJ8_divideUnsigned_16 rfl ?_
    refine X_lload_n (pc := 18) 2 dJ8_divideUnsigned_18 rfl rfl ?_
    refine X_lmul (pc := 19) dJ8_divideUnsigned_19 ?_
    refine X_lsub (pc := 20) dJ8_divideUnsigned_20 ?_
    rw [lN_mul, lN_sub k2]
    generalize hr : a - 2 * (a / 2 / d) * d = r at *
    refine X_lstore (pc := 21) (L' := [(6, .long _), (4, .long _), (0, .long _), (2, .long _)]) dJ8_divideUnsigned_21 (Nat.le_of_ble_eq_true rfl) rfl ?_
    refine X_lload (pc := 23) 1 dJ8_divideUnsigned_23 rfl ?_
    refine X_lload (pc := 25) 0 dJ8_divideUnsigned_25 rfl ?_
    refine X_lload (pc := 27) 0 dJ8_divideUnsigned_27 rfl ?_
    refine X_lload_n (pc := 29) 3 dJ8_divideUnsigned_29 rfl rfl ?_
    refine X_lsub (pc := 30) dJ8_divideUnsigned_30 ?_
    refine X_ldc2 (pc := 31) dJ8_divideUnsigned_31 q1779 ?_
    refine X_lxor (pc := 34) dJ8_divideUnsigned_34 ?_
    by_cases c : d ≤ r
    · rw [if_pos c] at k1
      refine X_lor (pc := 35) dJ8_divideUnsigned_35 ?_
      refine X_bipush (pc := 36) (x := 63) dJ8_divideUnsigned_36 (by decide) ?_
      refine X_lushr (pc := 38) dJ8_divideUnsigned_38 ?_
      have e : ((lN r ||| ((lN r - lN d) ^^^ (-1))).toUInt64 >>> ((63 : Int32).toInt64.toUInt64 &&& Int64.toUInt64 63)).toInt64 = lN 1 := by
        apply u64_inj
        rw [u64_ush (k := 63) _ _ (by decide), u64_lN (by decide), u64_or]
        have h1 : ((lN r - lN d) ^^^ (-1)).toInt < 0 := by
          rw [xm1, lN_sub c, pk_lT (by omega)]
          omega
        have h2 := u64_neg h1
        have h3 := u64_lt (lN r ||| ((lN r - lN d) ^^^ (-1)))
        rw [u64_or] at h3
        have h4 : u64 ((lN r - lN d) ^^^ (-1)) ≤ u64 (lN r) ||| u64 ((lN r - lN d) ^^^ (-1)) := Nat.right_le_or
        omega
      rw [e]
      refine X_ladd (pc := 39) dJ8_divideUnsigned_39 ?_
      rw [lN_add, ← k1]
      refine X_lreturn (pc := 40) dJ8_divideUnsigned_40 rfl (Nat.le_of_ble_eq_true rfl) (Nat.le_of_ble_eq_true rfl) ?_
      exact ⟨_, rfl, rfl, rfl⟩
    · rw [if_neg c] at k1
      refine X_lor (pc := 35) dJ8_divideUnsigned_35 ?_
      refine X_bipush (pc := 36) (x := 63) dJ8_divideUnsigned_36 (by decide) ?_
      refine X_lushr (pc := 38) dJ8_divideUnsigned_38 ?_
      have e : ((lN r ||| ((lN r - lN d) ^^^ (-1))).toUInt64 >>> ((63 : Int32).toInt64.toUInt64 &&& Int64.toUInt64 63)).toInt64 = lN 0 := by
        apply u64_inj
        rw [u64_ush (k := 63) _ _ (by decide), u64_lN (by decide), u64_or]
        have e1 : (lN r - lN d).toInt = (r : Int) - d := by rw [l_sub (by rw [pk_lT (by omega), pk_lT (by omega)]; omega) (by rw [pk_lT (by omega), pk_lT (by omega)]; omega), pk_lT (by omega), pk_lT (by omega)]
        have h1 : 0 ≤ ((lN r - lN d) ^^^ (-1)).toInt := by
          rw [xm1, e1]
          omega
        have h2 := u64_nn h1
        have h4 : u64 (lN r) < 2 ^ 63 := by rw [u64_lN (by omega)]; omega
        exact Nat.div_eq_of_lt (Nat.or_lt_two_pow h4 h2)
      rw [e]
      refine X_ladd (pc := 39) dJ8_divideUnsigned_39 ?_
      rw [lN_add, ← k1]
      refine X_lreturn (pc := 40) dJ8_divideUnsigned_40 rfl (Nat.le_of_ble_eq_true rfl) (Nat.le_of_ble_eq_true rfl) ?_
      exact ⟨_, rfl, rfl, rfl⟩
theorem lremU_ok (g : GX) (h : AH) {a d : Nat} (ha : a < 2 ^ 64) (h0 : 0 < d) (hd : d < 2 ^ 32) : MT g MJ8_remainderUnsigned ({ frames := 0, cells := 0, slots := 0, locals := 0 } : Room) [.long (lN a), .long (lN d)] h (RL fun r h' => r = lN (a % d) ∧ h' = h) := by
  refine MT.of (by decide) (Nat.le_of_ble_eq_true rfl) ?_
  obtain ⟨k1, k2, k3⟩ := div_two (a := a) h0
  have hmod : a % d = a - d * (a / d) := by have := Nat.div_add_mod a d; omega
  refine X_lload_n (pc := 0) 1 dJ8_remainderUnsigned_0 rfl rfl ?_
  refine X_lconst (pc := 1) (x := 0) dJ8_remainderUnsigned_1 (by decide) ?_
  refine X_lcmp (pc := 2) dJ8_remainderUnsigned_2 ?_
  refine X_if_lt (pc := 3) 40 dJ8_remainderUnsigned_3 (by decide) (fun c_3 => ?_) (fun c_3 => ?_)
  · have := (lg_cmp_lt _ _).mp c_3
    rw [show (0 : Int64) = lN 0 from rfl, pk_lLT (by omega) (by omega)] at this
    omega
  · skip
    refine X_lload_n (pc := 6) 0 dJ8_remainderUnsigned_6 rfl rfl ?_
    refine X_iconst (pc := 7) (x := 1) dJ8_remainderUnsigned_7 (by decide) ?_
    refine X_lushr (pc := 8) dJ8_remainderUnsigned_8 ?_
    rw [lN_ush (k := 1) ha _ (by decide)]
    refine X_lload_n (pc := 9) 1 dJ8_remainderUnsigned_9 rfl rfl ?_
    refine X_ldiv (pc := 10) dJ8_remainderUnsigned_10 (fun z => by have := (pk_lEQ (a := d) (b := 0) (by omega) (by omega)).mp z; omega) ?_
    rw [pk_lDiv (by omega) h0 (by omega), Nat.pow_one]
    refine X_iconst (pc := 11) (x := 1) dJ8_remainderUnsigned_11 (by decide) ?_
    refine X_lshl (pc := 12) dJ8_remainderUnsigned_12 ?_
    have hq : a / 2 / d * 2 ^ 1 < 2 ^ 64 := by
      have : a / 2 / d ≤ a / 2 := Nat.div_le_self _ _
      omega
    rw [lN_shl (k := 1) _ (by decide) hq, Nat.pow_one, Nat.mul_comm]
    refine X_lstore (pc := 13) (L' := [(4, .long _), (0, .long _), (2, .long _)]) dJ8_remainderUnsigned_13 (Nat.le_of_ble_eq_true rfl) rfl ?_
    refine X_lload_n (pc := 15) 1 dJ8_remainderUnsigned_15 rfl rfl ?_
    refine X_lload (pc := 16) 0 dJ8_remainderUnsigned_16 rfl ?_
    refine X_lload_n (pc := 18) 2 dJ8_remainderUnsigned_18 rfl rfl ?_
    refine X_lmul (pc := 19) dJ8_remainderUnsigned_19 ?_
    refine X_lsub (pc := 20) dJ8_remainderUnsigned_20 ?_
    rw [lN_mul, lN_sub k2]
    have hr2 : a = 2 * (a / 2 / d) * d + (a - 2 * (a / 2 / d) * d) := by omega
    generalize hr : a - 2 * (a / 2 / d) * d = r at *
    generalize a / 2 / d = t at *
    have e1 : (lN r - lN d).toInt = (r : Int) - d := by rw [l_sub (by rw [pk_lT (by omega), pk_lT (by omega)]; omega) (by rw [pk_lT (by omega), pk_lT (by omega)]; omega), pk_lT (by omega), pk_lT (by omega)]
    have e2 : d * (2 * t) = 2 * t * d := Nat.mul_comm _ _
    refine X_lstore (pc := 21) (L' := [(6, .long _), (4, .long _), (0, .long _), (2, .long _)]) dJ8_remainderUnsigned_21 (Nat.le_of_ble_eq_true rfl) rfl ?_
    refine X_lload (pc := 23) 0 dJ8_remainderUnsigned_23 rfl ?_
    refine X_lload (pc := 25) 0 dJ8_remainderUnsigned_25 rfl ?_
    refine X_lload_n (pc := 27) 3 dJ8_remainderUnsigned_27 rfl rfl ?_
    refine X_lsub (pc := 28) dJ8_remainderUnsigned_28 ?_
    refine X_ldc2 (pc := 29) dJ8_remainderUnsigned_29 q1779 ?_
    refine X_lxor (pc := 32) dJ8_remainderUnsigned_32 ?_
    refine X_bipush (pc := 33) (x := 63) dJ8_remainderUnsigned_33 (by decide) ?_
    refine X_lshr (pc := 35) dJ8_remainderUnsigned_35 ?_
    by_cases c : d ≤ r
    · rw [if_pos c] at k1
      have e : ((lN r - lN d) ^^^ (-1)) >>> ((63 : Int32).toInt64 &&& 63) = -1 := by
        apply Int64.toInt_inj.mp
        rw [l_sar (k := 63) _ _ (by decide), xm1, e1]
        show _ = -1
        omega
      rw [e]
      refine X_lload_n (pc := 36) 3 dJ8_remainderUnsigned_36 rfl rfl ?_
      refine X_land (pc := 37) dJ8_remainderUnsigned_37 ?_
      have e3 : (-1 : Int64) &&& lN d = lN d := by
        apply Int64.toBitVec_inj.mp
        rw [Int64.toBitVec_and]
        show BitVec.allOnes 64 &&& _ = _
        rw [BitVec.allOnes_and]
      rw [e3]
      refine X_lsub (pc := 38) dJ8_remainderUnsigned_38 ?_
      rw [lN_sub c]
      refine X_lreturn (pc := 39) dJ8_remainderUnsigned_39 rfl (Nat.le_of_ble_eq_true rfl) (Nat.le_of_ble_eq_true rfl) ?_
      refine ⟨_, rfl, ?_, rfl⟩
      congr 1
      rw [hmod, k1, Nat.mul_add, e2]
      omega
    · rw [if_neg c] at k1
      have e : ((lN r - lN d) ^^^ (-1)) >>> ((63 : Int32).toInt64 &&& 63) = 0 := by
        apply Int64.toInt_inj.mp
        rw [l_sar (k := 63) _ _ (by decide), xm1, e1]
        show _ = 0
        omega
      rw [e]
      refine X_lload_n (pc := 36) 3 dJ8_remainderUnsigned_36 rfl rfl ?_
      refine X_land (pc := 37) dJ8_remainderUnsigned_37 ?_
      have e3 : (0 : Int64) &&& lN d = lN 0 := by
        apply Int64.toBitVec_inj.mp
        rw [Int64.toBitVec_and]
        show 0#64 &&& _ = _
        rw [BitVec.zero_and]
        rfl
      rw [e3]
      refine X_lsub (pc := 38) dJ8_remainderUnsigned_38 ?_
      rw [lN_sub (Nat.zero_le _)]
      refine X_lreturn (pc := 39) dJ8_remainderUnsigned_39 rfl (Nat.le_of_ble_eq_true rfl) (Nat.le_of_ble_eq_true rfl) ?_
      refine ⟨_, rfl, ?_, rfl⟩
      congr 1
      rw [hmod, k1, Nat.mul_add, e2]
      omega
theorem lcompare_ok (g : GX) (h : AH) (x y : Int64) : MT g MJ8_compare ({ frames := 0, cells := 0, slots := 0, locals := 0 } : Room) [.long x, .long y] h (RI fun r h' => r = (if x < y then -1 else if x = y then 0 else 1) ∧ h' = h) := by
  refine MT.of (by decide) (Nat.le_of_ble_eq_true rfl) ?_
  refine X_lload_n (pc := 0) 0 dJ8_compare_0 rfl rfl ?_
  refine X_lload_n (pc := 1) 1 dJ8_compare_1 rfl rfl ?_
  refine X_lcmp (pc := 2) dJ8_compare_2 ?_
  refine X_if_ge (pc := 3) 10 dJ8_compare_3 (by decide) (fun c_3 => ?_) (fun c_3 => ?_)
  · have c1 := (lg_cmp_ge _ _).mp c_3
    refine X_lload_n (pc := 10) 0 dJ8_compare_10 rfl rfl ?_
    refine X_lload_n (pc := 11) 1 dJ8_compare_11 rfl rfl ?_
    refine X_lcmp (pc := 12) dJ8_compare_12 ?_
    refine X_if_ne (pc := 13) 20 dJ8_compare_13 (by decide) (fun c_13 => ?_) (fun c_13 => ?_)
    · have c2 : ¬ x = y := fun z => c_13 ((lg_cmp_eq _ _).mpr z)
      refine X_iconst (pc := 20) (x := 1) dJ8_compare_20 (by decide) ?_
      refine X_ireturn (pc := 21) dJ8_compare_21 rfl (Nat.le_of_ble_eq_true rfl) (Nat.le_of_ble_eq_true rfl) ?_
      exact ⟨1, rfl, by rw [if_neg (Int64.not_lt.mpr c1), if_neg c2], rfl⟩
    · have c2 := (lg_cmp_eq _ _).mp c_13
      refine X_iconst (pc := 16) (x := 0) dJ8_compare_16 (by decide) ?_
      refine X_goto (pc := 17) 21 dJ8_compare_17 (by decide) ?_
      refine X_ireturn (pc := 21) dJ8_compare_21 rfl (Nat.le_of_ble_eq_true rfl) (Nat.le_of_ble_eq_true rfl) ?_
      exact ⟨0, rfl, by rw [if_neg (Int64.not_lt.mpr c1), if_pos c2], rfl⟩
  · have c1 : ¬ y ≤ x := fun z => c_3 ((lg_cmp_ge _ _).mpr z)
    refine X_iconst (pc := 6) (x := (-1)) dJ8_compare_6 (by decide) ?_
    refine X_goto (pc := 7) 21 dJ8_compare_7 (by decide) ?_
    refine X_ireturn (pc := 21) dJ8_compare_21 rfl (Nat.le_of_ble_eq_true rfl) (Nat.le_of_ble_eq_true rfl) ?_
    exact ⟨-1, rfl, by rw [if_pos (Int64.not_le.mp c1)], rfl⟩
theorem flip_ltL (x y : Int64) : x + (-9223372036854775808) < y + (-9223372036854775808) ↔ u64 x < u64 y := by
  have h1 := toInt_u64 (x + (-9223372036854775808))
  have h2 := toInt_u64 (y + (-9223372036854775808))
  have e1 := u64_add x (-9223372036854775808)
  have e2 := u64_add y (-9223372036854775808)
  have e : u64 (-9223372036854775808) = 2 ^ 63 := by decide
  have l1 := u64_lt x
  have l2 := u64_lt y
  rw [Int64.lt_iff_toInt_lt, h1, h2, e1, e2, e]
  split <;> split <;> omega
theorem lcmpU_ok (g : GX) (h : AH) {a b : Nat} (ha : a < 2 ^ 64) (hb : b < 2 ^ 64) : MT g MJ8_compareUnsigned ({ frames := 1, cells := 0, slots := 0, locals := 23 } : Room) [.long (lN a), .long (lN b)] h (RI fun r h' => r = (if a < b then -1 else if a = b then 0 else 1) ∧ h' = h) := by
  refine MT.of (by decide) (Nat.le_of_ble_eq_true rfl) ?_
  refine X_lload_n (pc := 0) 0 dJ8_compareUnsigned_0 rfl rfl ?_
  refine X_ldc2 (pc := 1) dJ8_compareUnsigned_1 q1787 ?_
  refine X_ladd (pc := 4) dJ8_compareUnsigned_4 ?_
  refine X_lload_n (pc := 5) 1 dJ8_compareUnsigned_5 rfl rfl ?_
  refine X_ldc2 (pc := 6) dJ8_compareUnsigned_6 q1787 ?_
  refine X_ladd (pc := 9) dJ8_compareUnsigned_9 ?_
  refine X_isi (pc := 10) _ dJ8_compareUnsigned_10 cs_J8_302 rfl (lcompare_ok g h _ _) nJ8_compare (Nat.le_of_ble_eq_true rfl) (Nat.le_of_ble_eq_true rfl) (Nat.le_of_ble_eq_true rfl) (Nat.le_of_ble_eq_true rfl) (fun r h' q => ?_)
  obtain ⟨er, eh⟩ := q
  refine X_ireturn (pc := 13) dJ8_compareUnsigned_13 rfl (Nat.le_of_ble_eq_true rfl) (Nat.le_of_ble_eq_true rfl) ?_
  refine ⟨r, rfl, ?_, eh⟩
  rw [er]
  have f := flip_ltL (lN a) (lN b)
  rw [u64_lN ha, u64_lN hb] at f
  by_cases c1 : a < b
  · rw [if_pos (f.mpr c1), if_pos c1]
  · rw [if_neg (fun z => c1 (f.mp z)), if_neg c1]
    by_cases c2 : a = b
    · subst c2
      rw [if_pos rfl, if_pos rfl]
    · rw [if_neg, if_neg c2]
      intro z
      apply c2
      have h1 : lN a = lN b := by
        have := congrArg (fun w => w - (-9223372036854775808)) z
        simpa using this
      have h2 := congrArg u64 h1
      rwa [u64_lN ha, u64_lN hb] at h2
