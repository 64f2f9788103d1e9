set_option maxRecDepth 100000
/-! the reference: remainders by long division -/
theorem kn_2 {P W3 V2 lw lh q : Nat} (hlw : lw < P) (h : W3 + 1 ≤ q * V2) : lw + P * W3 < q * (lh + P * V2) := by
  have h1 : P * (W3 + 1) ≤ P * (q * V2) := Nat.mul_le_mul_left P h
  have e : q * (lh + P * V2) = q * lh + P * (q * V2) := by rw [Nat.mul_add, Nat.mul_left_comm]
  rw [e]
  rw [Nat.mul_add] at h1
  omega
theorem kn_0 {P u0 u1 u2 v1 v2 lw lh : Nat} (hP : 0 < P) (hlh : lh < P) (hv2 : v2 < 2 ^ 32) (hW : lw + P * (u2 + 2 ^ 32 * (u1 + 2 ^ 32 * u0)) < 2 ^ 32 * (lh + P * (v2 + 2 ^ 32 * v1))) : u0 ≤ v1 := by
  apply Nat.le_of_not_lt
  intro hc
  have h1 : P * (2 ^ 32 * (2 ^ 32 * (v1 + 1))) ≤ P * (u2 + 2 ^ 32 * (u1 + 2 ^ 32 * u0)) := Nat.mul_le_mul_left P (by omega)
  have h2 : lh + P * (v2 + 2 ^ 32 * v1) ≤ P * (2 ^ 32 * (v1 + 1)) := by
    have : P * (v2 + 2 ^ 32 * v1 + 1) ≤ P * (2 ^ 32 * (v1 + 1)) := Nat.mul_le_mul_left P (by omega)
    rw [Nat.mul_add P _ 1] at this
    omega
  have h3 : 2 ^ 32 * (lh + P * (v2 + 2 ^ 32 * v1)) ≤ 2 ^ 32 * (P * (2 ^ 32 * (v1 + 1))) := Nat.mul_le_mul_left _ h2
  have e : P * (2 ^ 32 * (2 ^ 32 * (v1 + 1))) = 2 ^ 32 * (P * (2 ^ 32 * (v1 + 1))) := Nat.mul_left_comm _ _ _
  omega
theorem kn_1 {P u0 u1 u2 v1 v2 lw lh : Nat} (h0 : 0 < v1) (hlw : lw < P) (hu2 : u2 < 2 ^ 32) : lw + P * (u2 + 2 ^ 32 * (u1 + 2 ^ 32 * u0)) < ((u0 * 2 ^ 32 + u1) / v1 + 1) * (lh + P * (v2 + 2 ^ 32 * v1)) := by
  apply kn_2 hlw
  have h1 := Nat.div_add_mod (u0 * 2 ^ 32 + u1) v1
  have h2 := Nat.mod_lt (u0 * 2 ^ 32 + u1) h0
  generalize (u0 * 2 ^ 32 + u1) / v1 = q at *
  have e : (q + 1) * (v2 + 2 ^ 32 * v1) = (q + 1) * v2 + 2 ^ 32 * (v1 * q + v1) := by
    rw [Nat.mul_add, Nat.mul_left_comm, Nat.mul_comm (q + 1) v1, Nat.mul_add, Nat.mul_one]
  rw [e]
  omega
theorem kn_s {P u0 u1 u2 v1 v2 lw lh q r : Nat} (hlw : lw < P) (hr : u0 * 2 ^ 32 + u1 = q * v1 + r) (hc : r * 2 ^ 32 + u2 < q * v2) : lw + P * (u2 + 2 ^ 32 * (u1 + 2 ^ 32 * u0)) < q * (lh + P * (v2 + 2 ^ 32 * v1)) := by
  apply kn_2 hlw
  have e : q * (v2 + 2 ^ 32 * v1) = q * v2 + 2 ^ 32 * (q * v1) := by rw [Nat.mul_add, Nat.mul_left_comm]
  rw [e]
  omega
theorem kn_3 {P u0 u1 u2 v1 v2 lw lh q r : Nat} (hP : 0 < P) (hlh : lh < P) (hq : q < 2 ^ 32) (hv1 : 2 ^ 31 ≤ v1) (hr : u0 * 2 ^ 32 + u1 = q * v1 + r) (hc : q * v2 ≤ r * 2 ^ 32 + u2) (hI : lw + P * (u2 + 2 ^ 32 * (u1 + 2 ^ 32 * u0)) < (q + 1) * (lh + P * (v2 + 2 ^ 32 * v1))) :
    q = (lw + P * (u2 + 2 ^ 32 * (u1 + 2 ^ 32 * u0))) / (lh + P * (v2 + 2 ^ 32 * v1)) ∨ q = (lw + P * (u2 + 2 ^ 32 * (u1 + 2 ^ 32 * u0))) / (lh + P * (v2 + 2 ^ 32 * v1)) + 1 := by
  have e : q * (v2 + 2 ^ 32 * v1) = q * v2 + 2 ^ 32 * (q * v1) := by rw [Nat.mul_add, Nat.mul_left_comm]
  have h1 : q * (v2 + 2 ^ 32 * v1) ≤ u2 + 2 ^ 32 * (u1 + 2 ^ 32 * u0) := by rw [e]; omega
  have h2 : P * (q * (v2 + 2 ^ 32 * v1)) ≤ P * (u2 + 2 ^ 32 * (u1 + 2 ^ 32 * u0)) := Nat.mul_le_mul_left P h1
  have h3 : q * lh ≤ 2 ^ 32 * P := Nat.mul_le_mul (by omega) (by omega)
  have h4 : P * (2 ^ 32 * 2) ≤ P * (v2 + 2 ^ 32 * v1) := Nat.mul_le_mul_left P (by omega)
  have e2 : q * (lh + P * (v2 + 2 ^ 32 * v1)) = q * lh + P * (q * (v2 + 2 ^ 32 * v1)) := by rw [Nat.mul_add, Nat.mul_left_comm]
  have h5 : q * (lh + P * (v2 + 2 ^ 32 * v1)) < lw + P * (u2 + 2 ^ 32 * (u1 + 2 ^ 32 * u0)) + (lh + P * (v2 + 2 ^ 32 * v1)) := by
    rw [e2]
    have : P * (2 ^ 32 * 2) = 2 * (2 ^ 32 * P) := by rw [Nat.mul_comm P, Nat.mul_right_comm, Nat.mul_comm]
    omega
  have hH : 0 < lh + P * (v2 + 2 ^ 32 * v1) := by
    have : 0 < P * (v2 + 2 ^ 32 * v1) := Nat.mul_pos hP (by omega)
    omega
  generalize lw + P * (u2 + 2 ^ 32 * (u1 + 2 ^ 32 * u0)) = W at *
  generalize lh + P * (v2 + 2 ^ 32 * v1) = H at *
  have d1 := Nat.div_add_mod W H
  have d2 := Nat.mod_lt W hH
  generalize W / H = t at *
  have b1 : t < q + 1 := Nat.lt_of_mul_lt_mul_left (a := H) (by rw [Nat.mul_comm H (q + 1)]; omega)
  have b2 : q < t + 2 := Nat.lt_of_mul_lt_mul_left (a := H) (by rw [Nat.mul_comm H q, Nat.mul_add]; omega)
  omega
theorem V_top3 (p : Nat) (g : Nat → Int32) : V (p + 3) g = V p g + 2 ^ (32 * p) * (u32 (g p) + 2 ^ 32 * (u32 (g (p + 1)) + 2 ^ 32 * u32 (g (p + 2)))) := by
  show V p g + u32 (g p) * 2 ^ (32 * p) + u32 (g (p + 1)) * 2 ^ (32 * (p + 1)) + u32 (g (p + 2)) * 2 ^ (32 * (p + 1 + 1)) = _
  rw [pow_s (p + 1), pow_s p]
  generalize (2 : Nat) ^ (32 * p) = K
  grind
theorem V_top2 (p : Nat) (g : Nat → Int32) : V (p + 2) g = V p g + 2 ^ (32 * p) * (u32 (g p) + 2 ^ 32 * u32 (g (p + 1))) := by
  show V p g + u32 (g p) * 2 ^ (32 * p) + u32 (g (p + 1)) * 2 ^ (32 * (p + 1)) = _
  rw [pow_s p]
  generalize (2 : Nat) ^ (32 * p) = K
  grind
theorem lN_or {a b : Nat} (ha : a < 2 ^ 32) (hb : b < 2 ^ 32) : lN (a * 2 ^ 32) ||| lN b = lN (a * 2 ^ 32 + b) := by
  apply u64_inj
  rw [u64_or, u64_lN (by omega), u64_lN (by omega), u64_lN (by omega), Nat.mul_comm, ← Nat.two_pow_add_eq_or_of_lt hb]
/-! shifts by a number of bits -/
theorem sl_n : ∀ n, n < 32 → ((nI n &&& 31).toBitVec.smod 32).toNat = n := by decide
theorem sr_n : ∀ n, n < 32 → (((nI n).toUInt32 &&& Int32.toUInt32 31).toBitVec % 32).toNat = n := by decide
theorem u32_or_dis {x y : Int32} {s a b : Nat} (hx : u32 x = 2 ^ s * a) (hy : u32 y = b) (hb : b < 2 ^ s) : u32 (x ||| y) = 2 ^ s * a + b := by
  show (x ||| y).toBitVec.toNat = _
  rw [Int32.toBitVec_or, BitVec.toNat_or]
  show u32 x ||| u32 y = _
  rw [hx, hy, ← Nat.two_pow_add_eq_or_of_lt hb]
/-- the upper bits that a shift brings into the next limb -/
def upS (s : Nat) (x : Int32) : Int32 := if s = 0 then 0 else (x.toUInt32 >>> ((nI (32 - s)).toUInt32 &&& Int32.toUInt32 31)).toInt32
theorem u32_upS {s : Nat} (hs : s < 32) (x : Int32) : u32 (upS s x) = u32 x * 2 ^ s / 2 ^ 32 := by
  have hx := u32_lt x
  unfold upS
  split
  · rename_i e
    subst e
    show 0 = _
    rw [Nat.pow_zero, Nat.mul_one, Nat.div_eq_of_lt hx]
  · rename_i e
    have h1 : u32 ((x.toUInt32 >>> ((nI (32 - s)).toUInt32 &&& Int32.toUInt32 31)).toInt32) = u32 x / 2 ^ (32 - s) := pk_ushr x (nI (32 - s)) (32 - s) (sr_n _ (by omega))
    rw [h1]
    have e2 : (2 : Nat) ^ 32 = 2 ^ (32 - s) * 2 ^ s := by rw [← Nat.pow_add]; congr 1; omega
    rw [e2, Nat.mul_div_mul_right _ _ (Nat.two_pow_pos s)]
def lmS (s : Nat) (x y : Int32) : Int32 := x <<< (nI s &&& 31) ||| y
theorem u32_lmS {s : Nat} (hs : s < 32) (x y : Int32) (hy : u32 y < 2 ^ s) : u32 (lmS s x y) = u32 x * 2 ^ s % 2 ^ 32 + u32 y := by
  have h1 : u32 (x <<< (nI s &&& 31)) = u32 x * 2 ^ s % 2 ^ 32 := pk_shl x _ s (sl_n s hs)
  have e2 : (2 : Nat) ^ 32 = 2 ^ s * 2 ^ (32 - s) := by rw [← Nat.pow_add]; congr 1; omega
  have e3 : u32 x * 2 ^ s % 2 ^ 32 = 2 ^ s * (u32 x % 2 ^ (32 - s)) := by rw [Nat.mul_comm, e2, Nat.mul_mod_mul_left]
  unfold lmS
  rw [u32_or_dis (h1.trans e3) rfl hy, e3]
theorem up_lt {s : Nat} (hs : s < 32) (x : Int32) : u32 (upS s x) < 2 ^ s := by
  rw [u32_upS hs]
  have := u32_lt x
  have h : u32 x * 2 ^ s < 2 ^ 32 * 2 ^ s := Nat.mul_lt_mul_of_pos_right this (Nat.two_pow_pos s)
  exact Nat.div_lt_of_lt_mul h
/-- the row shifted to the left -/
def shF (s : Nat) (G : Nat → Int32) (k : Nat) : Int32 := lmS s (G k) (if k = 0 then 0 else upS s (G (k - 1)))
theorem u32_shF {s : Nat} (hs : s < 32) (G : Nat → Int32) (k : Nat) : u32 (shF s G k) = u32 (G k) * 2 ^ s % 2 ^ 32 + (if k = 0 then 0 else u32 (G (k - 1)) * 2 ^ s / 2 ^ 32) := by
  unfold shF
  split
  · rw [u32_lmS hs _ _ (by show 0 < _; exact Nat.two_pow_pos s)]; rfl
  · rw [u32_lmS hs _ _ (up_lt hs _), u32_upS hs]
theorem shF_V {s : Nat} (hs : s < 32) (G : Nat → Int32) (n : Nat) : V n (shF s G) + (if n = 0 then 0 else u32 (G (n - 1)) * 2 ^ s / 2 ^ 32) * 2 ^ (32 * n) = V n G * 2 ^ s := by
  induction n with
  | zero => rw [if_pos rfl]; show 0 + 0 * _ = 0 * _; omega
  | succ n ih =>
    rw [if_neg (Nat.succ_ne_zero n), Nat.add_sub_cancel]
    show V n (shF s G) + u32 (shF s G n) * 2 ^ (32 * n) + _ = (V n G + u32 (G n) * 2 ^ (32 * n)) * 2 ^ s
    rw [u32_shF hs, pow_s, Nat.add_mul (V n G), ← ih]
    have hd := Nat.div_add_mod (u32 (G n) * 2 ^ s) (2 ^ 32)
    generalize (2 : Nat) ^ (32 * n) = K at *
    generalize (if n = 0 then 0 else u32 (G (n - 1)) * 2 ^ s / 2 ^ 32) = z at *
    generalize u32 (G n) * 2 ^ s / 2 ^ 32 = a at *
    generalize u32 (G n) * 2 ^ s % 2 ^ 32 = b at *
    have e : u32 (G n) * K * 2 ^ s = (2 ^ 32 * a + b) * K := by rw [hd, Nat.mul_right_comm]
    rw [e]
    generalize V n (shF s G) = v
    grind
/-- the row shifted to the right -/
def dnS (s : Nat) (x y : Int32) : Int32 := (x.toUInt32 >>> ((nI s).toUInt32 &&& Int32.toUInt32 31)).toInt32 ||| (if s = 0 then 0 else y <<< (nI (32 - s) &&& 31))
theorem u32_dnS {s : Nat} (hs : s < 32) (x y : Int32) : u32 (dnS s x y) = u32 x / 2 ^ s + (u32 y % 2 ^ s) * 2 ^ (32 - s) := by
  have hx := u32_lt x
  have h1 : u32 ((x.toUInt32 >>> ((nI s).toUInt32 &&& Int32.toUInt32 31)).toInt32) = u32 x / 2 ^ s := pk_ushr x (nI s) s (sr_n _ hs)
  have e2 : (2 : Nat) ^ 32 = 2 ^ (32 - s) * 2 ^ s := by rw [← Nat.pow_add]; congr 1; omega
  have hlt : u32 x / 2 ^ s < 2 ^ (32 - s) := by
    apply Nat.div_lt_of_lt_mul
    rw [Nat.mul_comm, ← e2]
    exact hx
  unfold dnS
  show (_ ||| _ : Int32).toBitVec.toNat = _
  rw [Int32.toBitVec_or, BitVec.toNat_or]
  show u32 _ ||| u32 _ = _
  rw [h1]
  split
  · rename_i e
    subst e
    show u32 x / 2 ^ 0 ||| 0 = _
    rw [Nat.or_zero, Nat.pow_zero, Nat.mod_one, Nat.zero_mul, Nat.add_zero]
  · rename_i e
    have h2 : u32 (y <<< (nI (32 - s) &&& 31)) = u32 y * 2 ^ (32 - s) % 2 ^ 32 := pk_shl y _ (32 - s) (sl_n _ (by omega))
    have e3 : u32 y * 2 ^ (32 - s) % 2 ^ 32 = 2 ^ (32 - s) * (u32 y % 2 ^ s) := by rw [Nat.mul_comm, e2, Nat.mul_mod_mul_left]
    rw [h2, e3, Nat.or_comm, ← Nat.two_pow_add_eq_or_of_lt hlt, Nat.add_comm, Nat.mul_comm]
theorem dn_V {s : Nat} (hs : s < 32) (G : Nat → Int32) (n : Nat) : 2 ^ s * V n (fun j => dnS s (G j) (G (j + 1))) + u32 (G 0) % 2 ^ s = V n G + (u32 (G n) % 2 ^ s) * 2 ^ (32 * n) := by
  induction n with
  | zero => show 2 ^ s * 0 + u32 (G 0) % 2 ^ s = 0 + u32 (G 0) % 2 ^ s * 2 ^ (32 * 0); omega
  | succ n ih =>
    show 2 ^ s * (V n (fun j => dnS s (G j) (G (j + 1))) + u32 (dnS s (G n) (G (n + 1))) * 2 ^ (32 * n)) + u32 (G 0) % 2 ^ s = V n G + u32 (G n) * 2 ^ (32 * n) + _
    rw [u32_dnS hs, pow_s]
    have e2 : (2 : Nat) ^ 32 = 2 ^ s * 2 ^ (32 - s) := by rw [← Nat.pow_add]; congr 1; omega
    have hd := Nat.div_add_mod (u32 (G n)) (2 ^ s)
    rw [e2]
    generalize (2 : Nat) ^ (32 * n) = K at *
    generalize (2 : Nat) ^ (32 - s) = T at *
    generalize u32 (G (n + 1)) % 2 ^ s = c at *
    generalize u32 (G n) / 2 ^ s = a at *
    generalize u32 (G n) % 2 ^ s = b at *
    generalize u32 (G 0) % 2 ^ s = d at *
    rw [← hd]
    generalize (2 : Nat) ^ s = S at *
    generalize V n G = v at *
    generalize V n (fun j => dnS s (G j) (G (j + 1))) = w at *
    grind
