set_option maxRecDepth 100000
/-! leading zeros -/
theorem nlz_step {n k y j : Nat} (h1 : y * 2 ^ k ≤ n) (h2 : n < (y + 1) * 2 ^ k) : (y / 2 ^ j) * 2 ^ (k + j) ≤ n ∧ n < (y / 2 ^ j + 1) * 2 ^ (k + j) := by
  have e : ∀ z, z * 2 ^ (k + j) = (z * 2 ^ j) * 2 ^ k := fun z => by rw [Nat.pow_add, Nat.mul_comm (2 ^ k), Nat.mul_assoc]
  rw [e, e]
  have h3 : y / 2 ^ j * 2 ^ j ≤ y := Nat.div_mul_le_self _ _
  have h4 : y + 1 ≤ (y / 2 ^ j + 1) * 2 ^ j := by
    have := Nat.lt_div_mul_add (a := y) (b := 2 ^ j) (Nat.two_pow_pos j)
    rw [Nat.add_mul, Nat.one_mul]
    omega
  exact ⟨Nat.le_trans (Nat.mul_le_mul_right _ h3) h1, Nat.lt_of_lt_of_le h2 (Nat.mul_le_mul_right _ h4)⟩
theorem nlz_fin {n k y : Nat} (h0 : 1 ≤ y) (hy : y < 4) (hk : k + y / 2 ≤ 31) (h1 : y * 2 ^ k ≤ n) (h2 : n < (y + 1) * 2 ^ k) : 2 ^ 31 ≤ n * 2 ^ (31 - k - y / 2) ∧ n * 2 ^ (31 - k - y / 2) < 2 ^ 32 := by
  generalize hs : 31 - k - y / 2 = s
  have h3 := Nat.mul_le_mul_right (2 ^ s) h1
  have h4 := Nat.mul_lt_mul_of_pos_right h2 (Nat.two_pow_pos s)
  obtain rfl | rfl | rfl : y = 1 ∨ y = 2 ∨ y = 3 := by omega
  · have e : (2 : Nat) ^ k * 2 ^ s = 2 ^ 31 := by rw [← Nat.pow_add]; congr 1; omega
    rw [Nat.mul_assoc, e] at h3 h4
    omega
  · have e : (2 : Nat) ^ k * 2 ^ s = 2 ^ 30 := by rw [← Nat.pow_add]; congr 1; omega
    rw [Nat.mul_assoc, e] at h3 h4
    omega
  · have e : (2 : Nat) ^ k * 2 ^ s = 2 ^ 30 := by rw [← Nat.pow_add]; congr 1; omega
    rw [Nat.mul_assoc, e] at h3 h4
    omega
set_option maxHeartbeats 1000000 in
theorem nlz_ok (g : GX) (h : AH) {n : Nat} (h0 : 0 < n) (hn : n < 2 ^ 32) : MT g MJ4_numberOfLeadingZeros ({ frames := 0, cells := 0, slots := 0, locals := 0 } : Room) [.int (nI n)] h (RI fun r h' => h' = h ∧ ∃ s, s < 32 ∧ r = nI s ∧ 2 ^ 31 ≤ n * 2 ^ s ∧ n * 2 ^ s < 2 ^ 32) := by
  refine MT.of (by decide) (Nat.le_of_ble_eq_true rfl) ?_
  generalize hPost : (RI fun r h' => h' = h ∧ ∃ s, s < 32 ∧ r = nI s ∧ 2 ^ 31 ≤ n * 2 ^ s ∧ n * 2 ^ s < 2 ^ 32) = Post
  have t4 : ∀ k y, 1 ≤ y → y < 4 → k + y / 2 ≤ 31 → y * 2 ^ k ≤ n → n < (y + 1) * 2 ^ k →
      XX g MJ4_numberOfLeadingZeros ({ frames := 0, cells := 0, slots := 0, locals := 0 } : Room) Post 0 0 73 [(1, .int (nI (31 - k))), (0, .int (nI y))] [] h := by
    intro k y y0 y1 hk h1 h2
    have e1 : ((nI y).toUInt32 >>> ((1 : Int32).toUInt32 &&& Int32.toUInt32 31)).toInt32 = nI (y / 2) := pk_ushrN (by omega) 1 1 (sr_n 1 (by decide))
    refine X_iload_n (pc := 73) 0 dJ4_numberOfLeadingZeros_73 rfl rfl ?_
    refine X_iload_n (pc := 74) 1 dJ4_numberOfLeadingZeros_74 rfl rfl ?_
    refine X_iconst (pc := 75) (x := 1) dJ4_numberOfLeadingZeros_75 (by decide) ?_
    refine X_iushr (pc := 76) dJ4_numberOfLeadingZeros_76 ?_
    rw [e1]
    refine X_isub (pc := 77) dJ4_numberOfLeadingZeros_77 ?_
    rw [show nI (31 - k) - nI (y / 2) = nI (31 - k - y / 2) from pk_sub (by omega)]
    subst hPost
    refine X_ireturn (pc := 78) dJ4_numberOfLeadingZeros_78 rfl (Nat.le_of_ble_eq_true rfl) (Nat.le_of_ble_eq_true rfl) ?_
    exact ⟨_, rfl, rfl, 31 - k - y / 2, by omega, rfl, nlz_fin y0 y1 hk h1 h2⟩
  have t3 : ∀ k y, 1 ≤ y → y < 16 → k ≤ 28 → y * 2 ^ k ≤ n → n < (y + 1) * 2 ^ k →
      XX g MJ4_numberOfLeadingZeros ({ frames := 0, cells := 0, slots := 0, locals := 0 } : Room) Post 0 0 61 [(1, .int (nI (31 - k))), (0, .int (nI y))] [] h := by
    intro k y y0 y1 hk h1 h2
    have e1 : ((nI y).toUInt32 >>> ((2 : Int32).toUInt32 &&& Int32.toUInt32 31)).toInt32 = nI (y / 2 ^ 2) := pk_ushrN (by omega) 2 2 (sr_n 2 (by decide))
    have p2 : (2 : Nat) ^ 2 = 4 := by decide
    refine X_iload_n (pc := 61) 1 dJ4_numberOfLeadingZeros_61 rfl rfl ?_
    refine X_iconst (pc := 62) (x := 4) dJ4_numberOfLeadingZeros_62 (by decide) ?_
    by_cases c : y < 4
    · refine X_icmp_lt (pc := 63) 73 dJ4_numberOfLeadingZeros_63 (by decide) (fun _ => ?_) (fun z => absurd (nI_lt (b := 4) c (by decide)) z)
      exact t4 k y y0 c (by omega) h1 h2
    · refine X_icmp_lt (pc := 63) 73 dJ4_numberOfLeadingZeros_63 (by decide) (fun z => absurd ((nI_ltI (b := 4) (by omega) (by decide)).mp z) c) (fun _ => ?_)
      obtain ⟨h3, h4⟩ := nlz_step (j := 2) h1 h2
      refine X_iinc (pc := 66) (L' := [(1, .int (_ + (-2))), (0, .int _)]) 0 dJ4_numberOfLeadingZeros_66 rfl rfl (Nat.le_of_ble_eq_true rfl) rfl ?_
      refine X_iload_n (pc := 69) 1 dJ4_numberOfLeadingZeros_69 rfl rfl ?_
      refine X_iconst (pc := 70) (x := 2) dJ4_numberOfLeadingZeros_70 (by decide) ?_
      refine X_iushr (pc := 71) dJ4_numberOfLeadingZeros_71 ?_
      refine X_istore_n (pc := 72) (L' := [(0, .int _), (1, .int _)]) dJ4_numberOfLeadingZeros_72 rfl (Nat.le_of_ble_eq_true rfl) rfl ?_
      rw [e1, show nI (31 - k) + (-2) = nI (31 - (k + 2)) from by rw [← Int32.sub_eq_add_neg]; exact (pk_sub (a := 31 - k) (b := 2) (by omega)).trans (congrArg nI (by omega))]
      refine XX.pick (L' := [(1, .int _), (0, .int _)]) [1, 0] rfl ?_
      exact t4 (k + 2) (y / 2 ^ 2) (by rw [p2]; omega) (by rw [p2]; omega) (by omega) h3 h4
  have t2 : ∀ k y, 1 ≤ y → y < 256 → k ≤ 24 → y * 2 ^ k ≤ n → n < (y + 1) * 2 ^ k →
      XX g MJ4_numberOfLeadingZeros ({ frames := 0, cells := 0, slots := 0, locals := 0 } : Room) Post 0 0 48 [(1, .int (nI (31 - k))), (0, .int (nI y))] [] h := by
    intro k y y0 y1 hk h1 h2
    have e1 : ((nI y).toUInt32 >>> ((4 : Int32).toUInt32 &&& Int32.toUInt32 31)).toInt32 = nI (y / 2 ^ 4) := pk_ushrN (by omega) 4 4 (sr_n 4 (by decide))
    have p2 : (2 : Nat) ^ 4 = 16 := by decide
    refine X_iload_n (pc := 48) 1 dJ4_numberOfLeadingZeros_48 rfl rfl ?_
    refine X_bipush (pc := 49) (x := 16) dJ4_numberOfLeadingZeros_49 (by decide) ?_
    by_cases c : y < 16
    · refine X_icmp_lt (pc := 51) 61 dJ4_numberOfLeadingZeros_51 (by decide) (fun _ => ?_) (fun z => absurd (nI_lt (b := 16) c (by decide)) z)
      exact t3 k y y0 c (by omega) h1 h2
    · refine X_icmp_lt (pc := 51) 61 dJ4_numberOfLeadingZeros_51 (by decide) (fun z => absurd ((nI_ltI (b := 16) (by omega) (by decide)).mp z) c) (fun _ => ?_)
      obtain ⟨h3, h4⟩ := nlz_step (j := 4) h1 h2
      refine X_iinc (pc := 54) (L' := [(1, .int (_ + (-4))), (0, .int _)]) 0 dJ4_numberOfLeadingZeros_54 rfl rfl (Nat.le_of_ble_eq_true rfl) rfl ?_
      refine X_iload_n (pc := 57) 1 dJ4_numberOfLeadingZeros_57 rfl rfl ?_
      refine X_iconst (pc := 58) (x := 4) dJ4_numberOfLeadingZeros_58 (by decide) ?_
      refine X_iushr (pc := 59) dJ4_numberOfLeadingZeros_59 ?_
      refine X_istore_n (pc := 60) (L' := [(0, .int _), (1, .int _)]) dJ4_numberOfLeadingZeros_60 rfl (Nat.le_of_ble_eq_true rfl) rfl ?_
      rw [e1, show nI (31 - k) + (-4) = nI (31 - (k + 4)) from by rw [← Int32.sub_eq_add_neg]; exact (pk_sub (a := 31 - k) (b := 4) (by omega)).trans (congrArg nI (by omega))]
      refine XX.pick (L' := [(1, .int _), (0, .int _)]) [1, 0] rfl ?_
      exact t3 (k + 4) (y / 2 ^ 4) (by rw [p2]; omega) (by rw [p2]; omega) (by omega) h3 h4
  have t1 : ∀ k y, 1 ≤ y → y < 65536 → k ≤ 16 → y * 2 ^ k ≤ n → n < (y + 1) * 2 ^ k →
      XX g MJ4_numberOfLeadingZeros ({ frames := 0, cells := 0, slots := 0, locals := 0 } : Room) Post 0 0 33 [(1, .int (nI (31 - k))), (0, .int (nI y))] [] h := by
    intro k y y0 y1 hk h1 h2
    have e1 : ((nI y).toUInt32 >>> ((8 : Int32).toUInt32 &&& Int32.toUInt32 31)).toInt32 = nI (y / 2 ^ 8) := pk_ushrN (by omega) 8 8 (sr_n 8 (by decide))
    have p2 : (2 : Nat) ^ 8 = 256 := by decide
    refine X_iload_n (pc := 33) 1 dJ4_numberOfLeadingZeros_33 rfl rfl ?_
    refine X_sipush (pc := 34) (x := 256) dJ4_numberOfLeadingZeros_34 (by decide) ?_
    by_cases c : y < 256
    · refine X_icmp_lt (pc := 37) 48 dJ4_numberOfLeadingZeros_37 (by decide) (fun _ => ?_) (fun z => absurd (nI_lt (b := 256) c (by decide)) z)
      exact t2 k y y0 c (by omega) h1 h2
    · refine X_icmp_lt (pc := 37) 48 dJ4_numberOfLeadingZeros_37 (by decide) (fun z => absurd ((nI_ltI (b := 256) (by omega) (by decide)).mp z) c) (fun _ => ?_)
      obtain ⟨h3, h4⟩ := nlz_step (j := 8) h1 h2
      refine X_iinc (pc := 40) (L' := [(1, .int (_ + (-8))), (0, .int _)]) 0 dJ4_numberOfLeadingZeros_40 rfl rfl (Nat.le_of_ble_eq_true rfl) rfl ?_
      refine X_iload_n (pc := 43) 1 dJ4_numberOfLeadingZeros_43 rfl rfl ?_
      refine X_bipush (pc := 44) (x := 8) dJ4_numberOfLeadingZeros_44 (by decide) ?_
      refine X_iushr (pc := 46) dJ4_numberOfLeadingZeros_46 ?_
      refine X_istore_n (pc := 47) (L' := [(0, .int _), (1, .int _)]) dJ4_numberOfLeadingZeros_47 rfl (Nat.le_of_ble_eq_true rfl) rfl ?_
      rw [e1, show nI (31 - k) + (-8) = nI (31 - (k + 8)) from by rw [← Int32.sub_eq_add_neg]; exact (pk_sub (a := 31 - k) (b := 8) (by omega)).trans (congrArg nI (by omega))]
      refine XX.pick (L' := [(1, .int _), (0, .int _)]) [1, 0] rfl ?_
      exact t2 (k + 8) (y / 2 ^ 8) (by rw [p2]; omega) (by rw [p2]; omega) (by omega) h3 h4
  have t0 : ∀ k y, 1 ≤ y → y < 2147483648 → k ≤ 0 → y * 2 ^ k ≤ n → n < (y + 1) * 2 ^ k →
      XX g MJ4_numberOfLeadingZeros ({ frames := 0, cells := 0, slots := 0, locals := 0 } : Room) Post 0 0 18 [(1, .int (nI (31 - k))), (0, .int (nI y))] [] h := by
    intro k y y0 y1 hk h1 h2
    have e1 : ((nI y).toUInt32 >>> ((16 : Int32).toUInt32 &&& Int32.toUInt32 31)).toInt32 = nI (y / 2 ^ 16) := pk_ushrN (by omega) 16 16 (sr_n 16 (by decide))
    have p2 : (2 : Nat) ^ 16 = 65536 := by decide
    refine X_iload_n (pc := 18) 1 dJ4_numberOfLeadingZeros_18 rfl rfl ?_
    refine X_ldcw (pc := 19) dJ4_numberOfLeadingZeros_19 q757 ?_
    by_cases c : y < 65536
    · refine X_icmp_lt (pc := 22) 33 dJ4_numberOfLeadingZeros_22 (by decide) (fun _ => ?_) (fun z => absurd (nI_lt (b := 65536) c (by decide)) z)
      exact t1 k y y0 c (by omega) h1 h2
    · refine X_icmp_lt (pc := 22) 33 dJ4_numberOfLeadingZeros_22 (by decide) (fun z => absurd ((nI_ltI (b := 65536) (by omega) (by decide)).mp z) c) (fun _ => ?_)
      obtain ⟨h3, h4⟩ := nlz_step (j := 16) h1 h2
      refine X_iinc (pc := 25) (L' := [(1, .int (_ + (-16))), (0, .int _)]) 0 dJ4_numberOfLeadingZeros_25 rfl rfl (Nat.le_of_ble_eq_true rfl) rfl ?_
      refine X_iload_n (pc := 28) 1 dJ4_numberOfLeadingZeros_28 rfl rfl ?_
      refine X_bipush (pc := 29) (x := 16) dJ4_numberOfLeadingZeros_29 (by decide) ?_
      refine X_iushr (pc := 31) dJ4_numberOfLeadingZeros_31 ?_
      refine X_istore_n (pc := 32) (L' := [(0, .int _), (1, .int _)]) dJ4_numberOfLeadingZeros_32 rfl (Nat.le_of_ble_eq_true rfl) rfl ?_
      rw [e1, show nI (31 - k) + (-16) = nI (31 - (k + 16)) from by rw [← Int32.sub_eq_add_neg]; exact (pk_sub (a := 31 - k) (b := 16) (by omega)).trans (congrArg nI (by omega))]
      refine XX.pick (L' := [(1, .int _), (0, .int _)]) [1, 0] rfl ?_
      exact t1 (k + 16) (y / 2 ^ 16) (by rw [p2]; omega) (by rw [p2]; omega) (by omega) h3 h4
  refine X_iload_n (pc := 0) 0 dJ4_numberOfLeadingZeros_0 rfl rfl ?_
  by_cases c : n < 2 ^ 31
  · refine X_if_gt (pc := 1) 15 dJ4_numberOfLeadingZeros_1 (by decide) (fun _ => ?_) (fun z => absurd (show (0 : Int32) < nI n from nI_lt (a := 0) h0 c) z)
    refine X_bipush (pc := 15) (x := 31) dJ4_numberOfLeadingZeros_15 (by decide) ?_
    refine X_istore_n (pc := 17) (L' := [(1, .int _), (0, .int _)]) dJ4_numberOfLeadingZeros_17 rfl (Nat.le_of_ble_eq_true rfl) rfl ?_
    exact t0 0 n h0 c (by decide) (by rw [Nat.pow_zero, Nat.mul_one]; exact Nat.le_refl _) (by rw [Nat.pow_zero, Nat.mul_one]; exact Nat.lt_succ_self _)
  · have hneg : nI n < 0 := by
      rw [Int32.lt_iff_toInt_lt, toInt_u32, show u32 (nI n) = n from pk_tn hn, if_neg c]
      have : (0 : Int32).toInt = 0 := rfl
      omega
    refine X_if_gt (pc := 1) 15 dJ4_numberOfLeadingZeros_1 (by decide) (fun z => absurd z (Int32.not_lt.mpr (Int32.le_of_lt hneg))) (fun _ => ?_)
    refine X_iload_n (pc := 4) 0 dJ4_numberOfLeadingZeros_4 rfl rfl ?_
    refine X_if_ne (pc := 5) 13 dJ4_numberOfLeadingZeros_5 (by decide) (fun _ => ?_) (fun z => absurd z (fun e => by rw [e] at hneg; exact absurd hneg (by decide)))
    refine X_iconst (pc := 13) (x := 0) dJ4_numberOfLeadingZeros_13 (by decide) ?_
    subst hPost
    refine X_ireturn (pc := 14) dJ4_numberOfLeadingZeros_14 rfl (Nat.le_of_ble_eq_true rfl) (Nat.le_of_ble_eq_true rfl) ?_
    exact ⟨_, rfl, rfl, 0, by decide, rfl, by rw [Nat.pow_zero, Nat.mul_one]; omega, by rw [Nat.pow_zero, Nat.mul_one]; exact hn⟩
