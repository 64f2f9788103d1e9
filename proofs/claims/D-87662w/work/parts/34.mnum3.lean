set_option maxRecDepth 100000
/-! the reference: half, halves, swap; small worlds -/
def hl (x y : Int32) : Int32 := (x.toUInt32 >>> ((1 : Int32).toUInt32 &&& Int32.toUInt32 31)).toInt32 ||| y <<< ((31 : Int32) &&& 31)
theorem u32_hl (x y : Int32) : u32 (hl x y) = u32 x / 2 + (u32 y % 2) * 2 ^ 31 := by
  have h1 : u32 ((x.toUInt32 >>> ((1 : Int32).toUInt32 &&& Int32.toUInt32 31)).toInt32) = u32 x / 2 ^ 1 := pk_ushr x 1 1 (by decide)
  have h2 : u32 (y <<< ((31 : Int32) &&& 31)) = u32 y * 2 ^ 31 % 2 ^ 32 := pk_shl y ((31 : Int32) &&& 31) 31 (by decide)
  have h3 := u32_lt x
  have e : u32 y * 2 ^ 31 % 2 ^ 32 = 2 ^ 31 * (u32 y % 2) := by omega
  unfold hl
  show (_ ||| _ : Int32).toBitVec.toNat = _
  rw [Int32.toBitVec_or, BitVec.toNat_or]
  show u32 _ ||| u32 _ = _
  rw [h1, h2, e, Nat.or_comm, ← Nat.two_pow_add_eq_or_of_lt (by omega)]
  omega
theorem hl_V (n : Nat) (G : Nat → Int32) : 2 * V n (fun j => hl (G j) (G (j + 1))) + u32 (G 0) % 2 = V n G + (u32 (G n) % 2) * 2 ^ (32 * n) := by
  induction n with
  | zero => show 2 * 0 + u32 (G 0) % 2 = 0 + u32 (G 0) % 2 * 2 ^ (32 * 0); omega
  | succ n ih =>
    show 2 * (V n (fun j => hl (G j) (G (j + 1))) + u32 (hl (G n) (G (n + 1))) * 2 ^ (32 * n)) + u32 (G 0) % 2 = V n G + u32 (G n) * 2 ^ (32 * n) + _
    have e : (2 : Nat) ^ (32 * (n + 1)) = 2 ^ 32 * 2 ^ (32 * n) := by rw [← Nat.pow_add]; congr 1; omega
    rw [u32_hl, e]
    generalize (2 : Nat) ^ (32 * n) = K at ih ⊢
    have e2 : u32 (G n) = 2 * (u32 (G n) / 2) + u32 (G n) % 2 := by omega
    generalize u32 (G n) / 2 = a at *
    generalize u32 (G n) % 2 = b at *
    generalize u32 (G (n + 1)) % 2 = c at *
    generalize u32 (G 0) % 2 = d at *
    rw [e2]
    generalize V n G = v at *
    generalize V n (fun j => hl (G j) (G (j + 1))) = w at *
    grind
theorem V_par {n : Nat} (h : 0 < n) (f : Nat → Int32) : V n f % 2 = u32 (f 0) % 2 := by
  induction n with
  | zero => omega
  | succ n ih =>
    show (V n f + u32 (f n) * 2 ^ (32 * n)) % 2 = _
    by_cases e : n = 0
    · subst e
      show (0 + u32 (f 0) * 2 ^ (32 * 0)) % 2 = _
      congr 1
      omega
    · rw [← ih (by omega)]
      have e2 : (2 : Nat) ^ (32 * n) = 2 * 2 ^ (32 * n - 1) := by rw [← Nat.pow_succ']; congr 1; omega
      rw [e2, Nat.mul_left_comm, Nat.add_mul_mod_self_left]
theorem and1_u32 (x : Int32) : x &&& 1 = nI (u32 x % 2) := pk_and x 1 (by decide)
def hvF (n k : Nat) (fa : Nat → Int32) (o : Int32) : Nat → Int32 := fun j => if j < k then hl (fa j) (if j + 1 < n then fa (j + 1) else o) else fa j
theorem hvF_0 (n : Nat) (fa : Nat → Int32) (o : Int32) : hvF n 0 fa o = fa := by
  funext j
  unfold hvF
  rw [if_neg (Nat.not_lt_zero j)]
theorem hvF_s (n k : Nat) (fa : Nat → Int32) (o : Int32) : upd (hvF n k fa o) k (hl (fa k) (if k + 1 < n then fa (k + 1) else o)) = hvF n (k + 1) fa o := by
  funext j
  unfold upd hvF
  by_cases e : j = k
  · subst e
    rw [if_pos rfl, if_pos (show j < j + 1 by omega)]
  · rw [if_neg e]
    by_cases e2 : j < k
    · rw [if_pos e2, if_pos (show j < k + 1 by omega)]
    · rw [if_neg e2, if_neg (show ¬ j < k + 1 by omega)]
theorem hvF_ge {n k j : Nat} {fa : Nat → Int32} {o : Int32} (h : k ≤ j) : hvF n k fa o j = fa j := if_neg (by omega)
theorem hvF_V {n : Nat} (h0 : 0 < n) (fa : Nat → Int32) (o : Int32) : 2 * V n (hvF n n fa o) + V n fa % 2 = V n fa + (u32 o % 2) * 2 ^ (32 * n) := by
  have h := hl_V n (fun j => if j < n then fa j else o)
  rw [if_pos h0, if_neg (Nat.lt_irrefl n)] at h
  rw [V_par h0, V_congr (f := hvF n n fa o) (f' := fun j => hl (if j < n then fa j else o) (if j + 1 < n then fa (j + 1) else o)) (fun j hj => by
    unfold hvF
    rw [if_pos hj, if_pos hj]), h]
  congr 1
  exact V_congr fun j hj => if_pos hj
theorem mhalf_ok (g : GX) {h : AH} {a n na : Nat} {o : Int32} {fa : Nat → Int32} (ha : h a = some (Ai false 0 na fa)) (hna : n ≤ na) (hn : na < 2 ^ 31) :
    MT g MX10_half ({ frames := 0, cells := 0, slots := 0, locals := 0 } : Room) [.ref a, .int (nI n), .int o] h (RV fun h' => h' = hset h a (Ai false 0 na (hvF n n fa o))) := by
  refine MT.of (by decide) (Nat.le_of_ble_eq_true rfl) ?_
  have loop := loop_up (P := fun k => XX g MX10_half ({ frames := 0, cells := 0, slots := 0, locals := 0 } : Room) (RV fun h' => h' = hset h a (Ai false 0 na (hvF n n fa o))) 0 0 2 [(3, .int (nI k)), (0, .ref a), (1, .int (nI n)), (2, .int o)] [] (hset h a (Ai false 0 na (hvF n k fa o)))) n
    (by
      refine X_iload_n (pc := 2) 0 dX10_half_2 rfl rfl ?_
      refine X_iload_n (pc := 3) 2 dX10_half_3 rfl rfl ?_
      refine X_cge (pc := 4) 41 dX10_half_4 (by decide) (by omega) (Nat.le_refl n) (fun _ => ?_) (fun c => absurd c (Nat.lt_irrefl _))
      refine X_return (pc := 41) dX10_half_41 rfl (Nat.le_of_ble_eq_true rfl) (Nat.le_of_ble_eq_true rfl) ?_
      exact ⟨rfl, rfl⟩)
    (fun k hk ih => by
      have ck : (nI k).toNatClampNeg = k := nI_clamp (by omega)
      have ck1 : (nI (k + 1)).toNatClampNeg = k + 1 := nI_clamp (by omega)
      have b1 : vp_in (nI k) na := vp_in_nI (by omega) (by omega)
      have hs := hset_self h a (Ai false 0 na (hvF n k fa o))
      have fin : ∀ y : Int32, y = (if k + 1 < n then fa (k + 1) else o) → XX g MX10_half ({ frames := 0, cells := 0, slots := 0, locals := 0 } : Room) (RV fun h' => h' = hset h a (Ai false 0 na (hvF n n fa o))) 0 0 30 [(3, .int (nI k)), (0, .ref a), (1, .int (nI n)), (2, .int o)] [.int y, .int ((fa k).toUInt32 >>> ((1 : Int32).toUInt32 &&& Int32.toUInt32 31)).toInt32, .int (nI k), .ref a] (hset h a (Ai false 0 na (hvF n k fa o))) := by
        intro y hy
        refine X_bipush (pc := 30) (x := 31) dX10_half_30 (by decide) ?_
        refine X_ishl (pc := 32) dX10_half_32 ?_
        refine X_ior (pc := 33) dX10_half_33 ?_
        refine X_iastore (pc := 34) dX10_half_34 hs b1 ?_
        refine X_iinc (pc := 35) (L' := [(3, .int (_ + 1)), (0, .ref _), (1, .int _), (2, .int _)]) 0 dX10_half_35 rfl rfl (Nat.le_of_ble_eq_true rfl) rfl ?_
        refine X_goto (pc := 38) 2 dX10_half_38 (by decide) ?_
        refine XX.eqh (hset_hset _ _ _ _) ?_
        have e : (((fa k).toUInt32 >>> ((1 : Int32).toUInt32 &&& Int32.toUInt32 31)).toInt32 ||| y <<< ((31 : Int32) &&& 31)) = hl (fa k) (if k + 1 < n then fa (k + 1) else o) := by rw [hy]; rfl
        rw [ck, e, hvF_s, nI_1]
        exact ih
      refine X_iload_n (pc := 2) 0 dX10_half_2 rfl rfl ?_
      refine X_iload_n (pc := 3) 2 dX10_half_3 rfl rfl ?_
      refine X_cge (pc := 4) 41 dX10_half_4 (by decide) (by omega) (by omega) (fun c => absurd c (by omega)) (fun _ => ?_)
      refine X_aload_n (pc := 7) 1 dX10_half_7 rfl rfl ?_
      refine X_iload_n (pc := 8) 0 dX10_half_8 rfl rfl ?_
      refine X_aload_n (pc := 9) 1 dX10_half_9 rfl rfl ?_
      refine X_iload_n (pc := 10) 0 dX10_half_10 rfl rfl ?_
      refine X_iaload (pc := 11) dX10_half_11 hs b1 ?_
      refine X_iconst (pc := 12) (x := 1) dX10_half_12 (by decide) ?_
      rw [ck, hvF_ge (Nat.le_refl k)]
      refine X_iushr (pc := 13) dX10_half_13 ?_
      refine X_iload_n (pc := 14) 0 dX10_half_14 rfl rfl ?_
      refine X_iconst (pc := 15) (x := 1) dX10_half_15 (by decide) ?_
      refine X_iadd (pc := 16) dX10_half_16 ?_
      rw [nI_1]
      refine X_iload_n (pc := 17) 2 dX10_half_17 rfl rfl ?_
      refine X_cge (pc := 18) 29 dX10_half_18 (by decide) (by omega) (by omega) (fun c => ?_) (fun c => ?_)
      · refine X_iload_n (pc := 29) 3 dX10_half_29 rfl rfl ?_
        exact fin _ (by rw [if_neg (by omega)])
      · refine X_aload_n (pc := 21) 1 dX10_half_21 rfl rfl ?_
        refine X_iload_n (pc := 22) 0 dX10_half_22 rfl rfl ?_
        refine X_iconst (pc := 23) (x := 1) dX10_half_23 (by decide) ?_
        refine X_iadd (pc := 24) dX10_half_24 ?_
        rw [nI_1]
        have b2 : vp_in (nI (k + 1)) na := vp_in_nI (by omega) (by omega)
        refine X_iaload (pc := 25) dX10_half_25 hs b2 ?_
        refine X_goto (pc := 26) 30 dX10_half_26 (by decide) ?_
        rw [ck1, hvF_ge (by omega)]
        exact fin _ (by rw [if_pos c]))
  refine X_iconst (pc := 0) (x := 0) dX10_half_0 (by decide) ?_
  refine X_istore_n (pc := 1) (L' := [(3, .int _), (0, .ref _), (1, .int _), (2, .int _)]) dX10_half_1 rfl (Nat.le_of_ble_eq_true rfl) rfl ?_
  refine XX.eqh (hset_same ha).symm ?_
  have := loop 0 (Nat.zero_le n)
  rw [hvF_0] at this
  exact this
theorem mswap_ok (g : GX) {h : AH} {a b n na nb : Nat} {fa fb : Nat → Int32} (ha : h a = some (Ai false 0 na fa)) (hb : h b = some (Ai false 0 nb fb)) (hne : a ≠ b) (hna : n ≤ na) (hnb : n ≤ nb) (hn : na < 2 ^ 31 ∧ nb < 2 ^ 31) :
    MT g MX10_swap ({ frames := 0, cells := 0, slots := 0, locals := 0 } : Room) [.ref a, .ref b, .int (nI n)] h (RV fun h' => h' = hset (hset h a (Ai false 0 na (cpN n fb fa))) b (Ai false 0 nb (cpN n fa fb))) := by
  refine MT.of (by decide) (Nat.le_of_ble_eq_true rfl) ?_
  have loop := loop_up (P := fun k => XX g MX10_swap ({ frames := 0, cells := 0, slots := 0, locals := 0 } : Room) (RV fun h' => h' = hset (hset h a (Ai false 0 na (cpN n fb fa))) b (Ai false 0 nb (cpN n fa fb))) 0 0 2 [(3, .int (nI k)), (0, .ref a), (1, .ref b), (2, .int (nI n))] [] (hset (hset h a (Ai false 0 na (cpN k fb fa))) b (Ai false 0 nb (cpN k fa fb)))) n
    (by
      refine X_iload_n (pc := 2) 0 dX10_swap_2 rfl rfl ?_
      refine X_iload_n (pc := 3) 3 dX10_swap_3 rfl rfl ?_
      refine X_cge (pc := 4) 29 dX10_swap_4 (by decide) (by omega) (Nat.le_refl n) (fun _ => ?_) (fun c => absurd c (Nat.lt_irrefl _))
      refine X_return (pc := 29) dX10_swap_29 rfl (Nat.le_of_ble_eq_true rfl) (Nat.le_of_ble_eq_true rfl) ?_
      exact ⟨rfl, rfl⟩)
    (fun k hk ih => by
      have ck : (nI k).toNatClampNeg = k := nI_clamp (by omega)
      have b1 : vp_in (nI k) na := vp_in_nI (by omega) (by omega)
      have b2 : vp_in (nI k) nb := vp_in_nI (by omega) (by omega)
      have hsb := hset_self (hset h a (Ai false 0 na (cpN k fb fa))) b (Ai false 0 nb (cpN k fa fb))
      have hsa : hset (hset h a (Ai false 0 na (cpN k fb fa))) b (Ai false 0 nb (cpN k fa fb)) a = some (Ai false 0 na (cpN k fb fa)) := by rw [hset_ne hne, hset_self]
      refine X_iload_n (pc := 2) 0 dX10_swap_2 rfl rfl ?_
      refine X_iload_n (pc := 3) 3 dX10_swap_3 rfl rfl ?_
      refine X_cge (pc := 4) 29 dX10_swap_4 (by decide) (by omega) (by omega) (fun c => absurd c (by omega)) (fun _ => ?_)
      refine X_aload_n (pc := 7) 1 dX10_swap_7 rfl rfl ?_
      refine X_iload_n (pc := 8) 0 dX10_swap_8 rfl rfl ?_
      refine X_iaload (pc := 9) dX10_swap_9 hsa b1 ?_
      rw [ck, cpN_at (Nat.le_refl k)]
      refine X_istore (pc := 10) (L' := [(4, .int _), (3, .int _), (0, .ref _), (1, .ref _), (2, .int _)]) dX10_swap_10 (Nat.le_of_ble_eq_true rfl) rfl ?_
      refine X_aload_n (pc := 12) 2 dX10_swap_12 rfl rfl ?_
      refine X_iload_n (pc := 13) 1 dX10_swap_13 rfl rfl ?_
      refine X_aload_n (pc := 14) 3 dX10_swap_14 rfl rfl ?_
      refine X_iload_n (pc := 15) 1 dX10_swap_15 rfl rfl ?_
      refine X_iaload (pc := 16) dX10_swap_16 hsb b2 ?_
      rw [ck, cpN_at (Nat.le_refl k)]
      refine X_iastore (pc := 17) dX10_swap_17 hsa b1 ?_
      rw [ck, cpN_s]
      have e1 : hset (hset (hset h a (Ai false 0 na (cpN k fb fa))) b (Ai false 0 nb (cpN k fa fb))) a (Ai false 0 na (cpN (k + 1) fb fa)) = hset (hset h a (Ai false 0 na (cpN (k + 1) fb fa))) b (Ai false 0 nb (cpN k fa fb)) := by
        rw [hset_comm _ _ _ hne, hset_hset, hset_comm _ _ _ hne.symm]
      refine XX.eqh e1 ?_
      refine X_aload_n (pc := 18) 3 dX10_swap_18 rfl rfl ?_
      refine X_iload_n (pc := 19) 1 dX10_swap_19 rfl rfl ?_
      refine X_iload (pc := 20) 0 dX10_swap_20 rfl ?_
      refine X_iastore (pc := 22) dX10_swap_22 (hset_self _ _ _) b2 ?_
      refine X_iinc (pc := 23) (L' := [(3, .int (_ + 1)), (4, .int _), (0, .ref _), (1, .ref _), (2, .int _)]) 1 dX10_swap_23 rfl rfl (Nat.le_of_ble_eq_true rfl) rfl ?_
      refine X_goto (pc := 26) 2 dX10_swap_26 (by decide) ?_
      refine XX.eqh (hset_hset _ _ _ _) ?_
      rw [ck, cpN_s, nI_1]
      refine XX.pick (L' := [(3, .int _), (0, .ref _), (1, .ref _), (2, .int _)]) [0, 2, 3, 4] rfl ?_
      exact ih)
  refine X_iconst (pc := 0) (x := 0) dX10_swap_0 (by decide) ?_
  refine X_istore_n (pc := 1) (L' := [(3, .int _), (0, .ref _), (1, .ref _), (2, .int _)]) dX10_swap_1 rfl (Nat.le_of_ble_eq_true rfl) rfl ?_
  have := loop 0 (Nat.zero_le n)
  rw [cpN_0, cpN_0, hset_same ha, hset_same hb] at this
  exact this
def hvN (m x : Nat) : Nat := if x % 2 = 0 then x / 2 else (x + m) / 2
theorem hvN_lt {m x : Nat} (hm : m % 2 = 1) (h : x < m) : hvN m x < m := by
  unfold hvN
  split <;> omega
set_option maxHeartbeats 4000000 in
theorem mhalves_ok (g : GX) {h : AH} {M am ah a n N na : Nat} {s : Int32} {fm fa : Nat → Int32} (hM : h M = some (Ob 12 [.ref am, .ref ah, .int (nI n), .int s])) (hm : h am = some (Ai false 0 N fm)) (ha : h a = some (Ai false 0 na fa)) (hne : am ≠ a) (h0 : 0 < n) (hs : n ≤ N ∧ n ≤ na) (hl : N < 2 ^ 31 ∧ na < 2 ^ 31) (hodd : V n fm % 2 = 1) :
    MT g MX10_halves ({ frames := 2, cells := 0, slots := 0, locals := 46 } : Room) [.ref M, .ref a] h (RV fun h' => ∃ f, V n f = hvN (V n fm) (V n fa) ∧ h' = hset h a (Ai false 0 na f)) := by
  refine MT.of (by decide) (Nat.le_of_ble_eq_true rfl) ?_
  have hMa : M ≠ a := ne_of hM ha (fun e => by cases e)
  have hp := V_par h0 fa
  have hlt := V_lt n fa
  have b0 : vp_in (0 : Int32) na := vp_in_nI (n := 0) (by omega) hl.2
  have c0 : (0 : Int32).toNatClampNeg = 0 := rfl
  refine X_iconst (pc := 0) (x := 0) dX10_halves_0 (by decide) ?_
  refine X_istore_n (pc := 1) (L' := [(2, .int _), (0, .ref _), (1, .ref _)]) dX10_halves_1 rfl (Nat.le_of_ble_eq_true rfl) rfl ?_
  refine X_aload_n (pc := 2) 2 dX10_halves_2 rfl rfl ?_
  refine X_iconst (pc := 3) (x := 0) dX10_halves_3 (by decide) ?_
  refine X_iaload (pc := 4) dX10_halves_4 ha b0 ?_
  rw [c0]
  refine X_iconst (pc := 5) (x := 1) dX10_halves_5 (by decide) ?_
  refine X_iand (pc := 6) dX10_halves_6 ?_
  rw [and1_u32, ← hp]
  refine X_iconst (pc := 7) (x := 1) dX10_halves_7 (by decide) ?_
  refine X_icmp_ne (pc := 8) 25 dX10_halves_8 (by decide) (fun c_8 => ?_) (fun c_8 => ?_)
  · have hev : V n fa % 2 = 0 := by
      rcases Nat.mod_two_eq_zero_or_one (V n fa) with e | e
      · exact e
      · rw [e] at c_8; exact absurd rfl c_8
    refine X_aload_n (pc := 25) 2 dX10_halves_25 rfl rfl ?_
    refine X_aload_n (pc := 26) 1 dX10_halves_26 rfl rfl ?_
    refine X_getfield (pc := 27) dX10_halves_27 fg_X10_13_12 (by assumption) (by first | rfl | assumption) ?_
    refine X_iload_n (pc := 30) 0 dX10_halves_30 rfl rfl ?_
    refine X_isv (pc := 31) _ dX10_halves_31 cs_X10_106 rfl (mhalf_ok g ha hs.2 hl.2) nX10_half (Nat.le_of_ble_eq_true rfl) (Nat.le_of_ble_eq_true rfl) (Nat.le_of_ble_eq_true rfl) (Nat.le_of_ble_eq_true rfl) (fun h1 q1 => ?_)
    subst q1
    refine X_return (pc := 34) dX10_halves_34 rfl (Nat.le_of_ble_eq_true rfl) (Nat.le_of_ble_eq_true rfl) ?_
    refine ⟨rfl, _, ?_, rfl⟩
    have := hvF_V h0 fa 0
    have e0 : u32 (0 : Int32) % 2 = 0 := rfl
    rw [e0, hev] at this
    unfold hvN
    rw [if_pos hev]
    omega
  · skip
    have hod : V n fa % 2 = 1 := by
      rcases Nat.mod_two_eq_zero_or_one (V n fa) with e | e
      · rw [e] at c_8; exact absurd c_8 (by decide)
      · exact e
    refine X_aload_n (pc := 11) 2 dX10_halves_11 rfl rfl ?_
    refine X_aload_n (pc := 12) 1 dX10_halves_12 rfl rfl ?_
    refine X_getfield (pc := 13) dX10_halves_13 fg_X10_22_12 (by assumption) (by first | rfl | assumption) ?_
    refine X_aload_n (pc := 16) 2 dX10_halves_16 rfl rfl ?_
    refine X_aload_n (pc := 17) 1 dX10_halves_17 rfl rfl ?_
    refine X_getfield (pc := 18) dX10_halves_18 fg_X10_13_12 (by assumption) (by first | rfl | assumption) ?_
    refine X_isi (pc := 21) _ dX10_halves_21 cs_X10_18 rfl (mplus_ok g ha hm ha hs.2 hs.1 hs.2 ⟨hl.2, hl.1, hl.2⟩) nX10_plus (Nat.le_of_ble_eq_true rfl) (Nat.le_of_ble_eq_true rfl) (Nat.le_of_ble_eq_true rfl) (Nat.le_of_ble_eq_true rfl) (fun r1 h1 q1 => ?_)
    obtain ⟨f, w, rfl, hw, hf, hv, rfl⟩ := q1
    have hsa := hset_self h a (Ai false 0 na f)
    have hfM : hset h a (Ai false 0 na f) M = some (Ob 12 [.ref am, .ref ah, .int (nI n), .int s]) := by rw [hset_ne hMa]; exact hM
    refine X_istore_n (pc := 24) (L' := [(2, .int _), (0, .ref _), (1, .ref _)]) dX10_halves_24 rfl (Nat.le_of_ble_eq_true rfl) rfl ?_
    refine X_aload_n (pc := 25) 2 dX10_halves_25 rfl rfl ?_
    refine X_aload_n (pc := 26) 1 dX10_halves_26 rfl rfl ?_
    refine X_getfield (pc := 27) dX10_halves_27 fg_X10_13_12 (by assumption) (by first | rfl | assumption) ?_
    refine X_iload_n (pc := 30) 0 dX10_halves_30 rfl rfl ?_
    refine X_isv (pc := 31) _ dX10_halves_31 cs_X10_106 rfl (mhalf_ok g hsa hs.2 hl.2) nX10_half (Nat.le_of_ble_eq_true rfl) (Nat.le_of_ble_eq_true rfl) (Nat.le_of_ble_eq_true rfl) (Nat.le_of_ble_eq_true rfl) (fun h1 q1 => ?_)
    subst q1
    refine XX.eqh (hset_hset _ _ _ _) ?_
    refine X_return (pc := 34) dX10_halves_34 rfl (Nat.le_of_ble_eq_true rfl) (Nat.le_of_ble_eq_true rfl) ?_
    refine ⟨rfl, _, ?_, rfl⟩
    have h2 := hvF_V h0 f (nI w)
    have hlf := V_lt n f
    have hp2 : 0 < 2 ^ (32 * n) := Nat.two_pow_pos _
    have ev : 2 ^ (32 * n) % 2 = 0 := by
      have e2 : (2 : Nat) ^ (32 * n) = 2 * 2 ^ (32 * n - 1) := by rw [← Nat.pow_succ']; congr 1; omega
      rw [e2, Nat.mul_mod_right]
    unfold hvN
    rw [if_neg (by omega)]
    have ew : u32 (nI w) % 2 = w := by rw [u32_nI]; omega
    rw [ew] at h2
    have hpar : V n f % 2 = 0 := by
      rcases Nat.le_one_iff_eq_zero_or_eq_one.mp hw with rfl | rfl <;> omega
    omega
/-- a small world: some arrays by name; the rest lies outside -/
theorem WD.small {h : AH} (L : List (Nat × Nat × Nat × (Nat → Int32))) (hn : (L.map (fun q => q.1)).Nodup) (hh : ∀ q ∈ L, h q.1 = some (Ai false q.2.1 q.2.2.1 q.2.2.2)) :
    WD (fun k => (L[k]?.map fun q => (3, q.2.1, q.2.2.1)).getD (0, 0, 0)) (fun k => (L[k]?.map fun q => q.1).getD 0) h (fun _ => 0) (fun k => (L[k]?.map fun q => q.2.2.2).getD (fun _ => 0)) (fun _ => []) (fun _ => nm 0 0) h := by
  refine ⟨fun k k' hk hk' he => ?_, fun k => ?_, fun a _ => rfl⟩
  · have l1 : k < L.length := Nat.lt_of_not_le fun z => hk (by simp [List.getElem?_eq_none z])
    have l2 : k' < L.length := Nat.lt_of_not_le fun z => hk' (by simp [List.getElem?_eq_none z])
    simp [List.getElem?_eq_getElem l1, List.getElem?_eq_getElem l2] at he
    have := List.pairwise_iff_getElem.mp hn
    rcases Nat.lt_trichotomy k k' with z | z | z
    · exact absurd (by rw [List.getElem_map, List.getElem_map]; exact he) (this k k' (by simpa using l1) (by simpa using l2) z)
    · exact z
    · exact absurd (by rw [List.getElem_map, List.getElem_map]; exact he.symm) (this k' k (by simpa using l2) (by simpa using l1) z)
  · by_cases l1 : k < L.length
    · simp only [List.getElem?_eq_getElem l1, Option.map_some, Option.getD_some]
      exact hh _ (List.getElem_mem l1)
    · simp only [List.getElem?_eq_none (Nat.not_lt.mp l1), Option.map_none, Option.getD_none]
      trivial
