set_option maxRecDepth 100000
/-! the reference: numbers to bytes -/
/-- the byte of a number, as the array holds it -/
def tb (v : Nat) : Int32 := (nI (v % 256)).toInt8.toInt32
theorem toInt8_low (x : Int32) : x.toInt8.toInt32 = tb (u32 x) := by
  unfold tb
  congr 1
  apply Int8.toBitVec_inj.mp
  rw [Int32.toBitVec_toInt8, Int32.toBitVec_toInt8]
  apply BitVec.eq_of_toNat_eq
  rw [BitVec.signExtend_eq_setWidth_of_le _ (by decide), BitVec.signExtend_eq_setWidth_of_le _ (by decide), BitVec.toNat_setWidth, BitVec.toNat_setWidth, pk_tn (by have := Nat.mod_lt (u32 x) (show 256 > 0 by decide); omega)]
  show u32 x % 2 ^ 8 = u32 x % 256 % 2 ^ 8
  omega
theorem tb_mod (v : Nat) : tb (v % 256) = tb v := by unfold tb; rw [Nat.mod_mod]
theorem tb8 (v : Nat) : (tb v).toInt8.toInt32 = tb v := by
  unfold tb
  rw [Int8.toInt8_toInt32]
theorem V_byte {n i : Nat} {f : Nat → Int32} (hi : i / 4 < n) : u32 (f (i / 4)) / 2 ^ (8 * (i % 4)) % 256 = V n f / 256 ^ i % 256 := by
  have e := lim_V f hi
  rw [← e, u32_lim, p256, ← Nat.div_div_eq_div_mul]
  generalize V n f / 2 ^ (32 * (i / 4)) = x
  have e2 : (2 : Nat) ^ 32 = 2 ^ (8 * (i % 4)) * 2 ^ (32 - 8 * (i % 4)) := by rw [← Nat.pow_add]; congr 1; omega
  rw [e2, Nat.mod_mul_right_div_self, Nat.mod_mod_of_dvd]
  refine ⟨2 ^ (24 - 8 * (i % 4)), ?_⟩
  rw [show (256 : Nat) = 2 ^ 8 from rfl, ← Nat.pow_add]
  congr 1
  omega
theorem st_byte {n i : Nat} {f : Nat → Int32} (hi : i / 4 < n) : (((f (i / 4)).toUInt32 >>> ((nI (8 * (i % 4))).toUInt32 &&& Int32.toUInt32 31)).toInt32).toInt8.toInt32 = tb (V n f / 256 ^ i) := by
  have h1 : u32 (((f (i / 4)).toUInt32 >>> ((nI (8 * (i % 4))).toUInt32 &&& Int32.toUInt32 31)).toInt32) = u32 (f (i / 4)) / 2 ^ (8 * (i % 4)) := pk_ushr _ (nI (8 * (i % 4))) (8 * (i % 4)) (sr_n _ (by omega))
  rw [toInt8_low, h1, ← tb_mod, V_byte hi, tb_mod]
/-- what store writes -/
def stF (v fr many : Nat) (f : Nat → Int32) (j : Nat) : Int32 := if fr ≤ j ∧ j < fr + many then tb (v / 256 ^ (fr + many - 1 - j)) else f j
set_option maxHeartbeats 2000000 in
theorem store_ok (g : GX) {h : AH} {a to fr many n na nt : Nat} {ra : Bool} {fa ft : Nat → Int32} (ha : h a = some (Ai ra 0 na fa)) (ht : h to = some (Ai false 2 nt ft)) (h1 : n ≤ na) (h2 : na < 2 ^ 31) (h3 : fr + many ≤ nt) (h4 : nt < 2 ^ 31) (h5 : many ≤ 4 * n) :
    MT g MX10_store ({ frames := 0, cells := 0, slots := 0, locals := 0 } : Room) [.ref a, .ref to, .int (nI fr), .int (nI many)] h (RV fun h' => h' = hset h to (Ai false 2 nt (stF (V n fa) fr many ft))) := by
  refine MT.of (by decide) (Nat.le_of_ble_eq_true rfl) ?_
  have hne : a ≠ to := fun e => by subst e; rw [ha] at ht; cases ht
  generalize hPost : (RV fun h' => h' = hset h to (Ai false 2 nt (stF (V n fa) fr many ft))) = Post
  have loop : ∀ m i, i + m = many → ∀ f : Nat → Int32, (∀ j, f j = if fr + m ≤ j ∧ j < fr + many then tb (V n fa / 256 ^ (fr + many - 1 - j)) else ft j) → XX g MX10_store ({ frames := 0, cells := 0, slots := 0, locals := 0 } : Room) Post 0 0 3 [(4, .int (nI i)), (0, .ref a), (1, .ref to), (2, .int (nI fr)), (3, .int (nI many))] [] (hset h to (Ai false 2 nt f)) := by
    intro m
    induction m with
    | zero =>
      intro i hi f hf
      refine X_iload (pc := 3) 0 dX10_store_3 rfl ?_
      refine X_iload_n (pc := 5) 4 dX10_store_5 rfl rfl ?_
      refine X_cge (pc := 6) 40 dX10_store_6 (by decide) (by omega) (by omega) (fun _ => ?_) (fun c => absurd c (by omega))
      subst hPost
      refine X_return (pc := 40) dX10_store_40 rfl (Nat.le_of_ble_eq_true rfl) (Nat.le_of_ble_eq_true rfl) ?_
      refine ⟨rfl, ?_⟩
      have e : f = stF (V n fa) fr many ft := funext hf
      rw [e]
    | succ m ih =>
      intro i hi f hf
      have ci : (nI (i / 4)).toNatClampNeg = i / 4 := nI_clamp (by omega)
      have cb : (nI (fr + many - 1 - i)).toNatClampNeg = fr + many - 1 - i := nI_clamp (by omega)
      have b1 : vp_in (nI (i / 4)) na := vp_in_nI (by omega) (by omega)
      have b2 : vp_in (nI (fr + many - 1 - i)) nt := vp_in_nI (by omega) (by omega)
      have c1 := hset_self h to (Ai false 2 nt f)
      have c2 : hset h to (Ai false 2 nt f) a = some (Ai ra 0 na fa) := by rw [hset_ne hne]; exact ha
      have d1 : nI i / 4 = nI (i / 4) := pk_div (d := 4) (by omega) (by decide) (by decide)
      have d2 : nI i - nI i / 4 * 4 = nI (i % 4) := pk_rem (d := 4) (by omega) (by decide) (by decide)
      have d3 : nI fr + nI many - 1 - nI i = nI (fr + many - 1 - i) := by rw [nI_add, show (1 : Int32) = nI 1 from rfl, pk_sub (by omega), pk_sub (by omega)]
      refine X_iload (pc := 3) 0 dX10_store_3 rfl ?_
      refine X_iload_n (pc := 5) 4 dX10_store_5 rfl rfl ?_
      refine X_cge (pc := 6) 40 dX10_store_6 (by decide) (by omega) (by omega) (fun c => absurd c (by omega)) (fun _ => ?_)
      refine X_aload_n (pc := 9) 2 dX10_store_9 rfl rfl ?_
      refine X_iload_n (pc := 10) 3 dX10_store_10 rfl rfl ?_
      refine X_iload_n (pc := 11) 4 dX10_store_11 rfl rfl ?_
      refine X_iadd (pc := 12) dX10_store_12 ?_
      refine X_iconst (pc := 13) (x := 1) dX10_store_13 (by decide) ?_
      refine X_isub (pc := 14) dX10_store_14 ?_
      refine X_iload (pc := 15) 0 dX10_store_15 rfl ?_
      refine X_isub (pc := 17) dX10_store_17 ?_
      rw [d3]
      refine X_aload_n (pc := 18) 1 dX10_store_18 rfl rfl ?_
      refine X_iload (pc := 19) 0 dX10_store_19 rfl ?_
      refine X_iconst (pc := 21) (x := 4) dX10_store_21 (by decide) ?_
      refine X_idiv (pc := 22) dX10_store_22 (by decide) ?_
      rw [d1]
      refine X_iaload (pc := 23) dX10_store_23 c2 b1 ?_
      refine X_bipush (pc := 24) (x := 8) dX10_store_24 (by decide) ?_
      refine X_iload (pc := 26) 0 dX10_store_26 rfl ?_
      refine X_iconst (pc := 28) (x := 4) dX10_store_28 (by decide) ?_
      refine X_irem (pc := 29) dX10_store_29 (by decide) ?_
      rw [ci, d2]
      refine X_imul (pc := 30) dX10_store_30 ?_
      rw [show (8 : Int32) * nI (i % 4) = nI (8 * (i % 4)) from pk_mul 8 (i % 4)]
      refine X_iushr (pc := 31) dX10_store_31 ?_
      refine X_i2b (pc := 32) dX10_store_32 ?_
      rw [st_byte (n := n) (by omega)]
      refine X_bastore (pc := 33) dX10_store_33 c1 b2 ?_
      refine X_iinc (pc := 34) (L' := [(4, .int (_ + 1)), (0, .ref _), (1, .ref _), (2, .int _), (3, .int _)]) 0 dX10_store_34 rfl rfl (Nat.le_of_ble_eq_true rfl) rfl ?_
      refine X_goto (pc := 37) 3 dX10_store_37 (by decide) ?_
      rw [cb, tb8, hset_hset, show nI i + 1 = nI (i + 1) from nI_add i 1]
      refine ih (i + 1) (by omega) _ (fun j => ?_)
      unfold upd
      by_cases e : j = fr + many - 1 - i
      · rw [if_pos e, if_pos (by omega), e, show fr + many - 1 - (fr + many - 1 - i) = i by omega]
      · rw [if_neg e, hf j]
        by_cases c : fr + (m + 1) ≤ j ∧ j < fr + many
        · rw [if_pos c, if_pos (by omega)]
        · rw [if_neg c, if_neg (by omega)]
  refine X_iconst (pc := 0) (x := 0) dX10_store_0 (by decide) ?_
  refine X_istore (pc := 1) (L' := [(4, .int _), (0, .ref _), (1, .ref _), (2, .int _), (3, .int _)]) dX10_store_1 (Nat.le_of_ble_eq_true rfl) rfl ?_
  have := loop many 0 (by omega) ft (fun j => by rw [if_neg (by omega)])
  rw [hset_same ht] at this
  exact this
