set_option maxRecDepth 100000
/-! the reference: bytes to numbers and back -/
abbrev b8 (x : Int32) : Nat := u32 x % 256
def bsm (f : Nat → Int32) (hi : Nat) : Nat → Nat
  | 0 => 0
  | i + 1 => bsm f hi i + b8 (f (hi - 1 - i)) * 256 ^ i
theorem bsm_lt (f : Nat → Int32) (hi : Nat) : ∀ i, bsm f hi i < 256 ^ i
  | 0 => by show 0 < 1; decide
  | i + 1 => by
    have h1 := bsm_lt f hi i
    have h2 : b8 (f (hi - 1 - i)) ≤ 255 := by have := Nat.mod_lt (u32 (f (hi - 1 - i))) (show 256 > 0 by decide); show u32 (f (hi - 1 - i)) % 256 ≤ 255; omega
    show bsm f hi i + b8 (f (hi - 1 - i)) * 256 ^ i < 256 ^ (i + 1)
    have h3 := Nat.mul_le_mul_right (256 ^ i) h2
    rw [Nat.pow_succ]
    omega
theorem V_at {f : Nat → Int32} {j : Nat} {x : Int32} : ∀ {n : Nat}, j < n → V n (upd f j x) + u32 (f j) * 2 ^ (32 * j) = V n f + u32 x * 2 ^ (32 * j)
  | 0, h => absurd h (by omega)
  | n + 1, h => by
    show V n (upd f j x) + u32 (upd f j x n) * 2 ^ (32 * n) + _ = V n f + u32 (f n) * 2 ^ (32 * n) + _
    by_cases e : j = n
    · subst e
      have e1 : V j (upd f j x) = V j f := V_congr fun i hi => if_neg (by omega)
      have e2 : upd f j x j = x := if_pos rfl
      rw [e1, e2]
      omega
    · have ih := V_at (f := f) (x := x) (show j < n by omega)
      have e2 : upd f j x n = f n := if_neg (by omega)
      rw [e2]
      omega
theorem V_zeros {f : Nat → Int32} : ∀ {n : Nat}, (∀ j, j < n → f j = 0) → V n f = 0
  | 0, _ => rfl
  | n + 1, h => by
    show V n f + u32 (f n) * 2 ^ (32 * n) = 0
    rw [V_zeros (fun j hj => h j (by omega)), h n (by omega), show u32 (0 : Int32) = 0 from rfl, Nat.zero_mul]
theorem p256 (i : Nat) : 256 ^ i = 2 ^ (32 * (i / 4)) * 2 ^ (8 * (i % 4)) := by
  rw [← Nat.pow_add, show (256 : Nat) = 2 ^ 8 from rfl, ← Nat.pow_mul]
  congr 1
  omega
theorem b_put {n i : Nat} {f : Nat → Int32} {b v : Nat} (hi : i / 4 < n) (hV : V n f = v) (hv : v < 256 ^ i) (hb : b < 256) :
    V n (upd f (i / 4) (f (i / 4) ||| nI b <<< (nI (8 * (i % 4)) &&& 31))) = v + b * 256 ^ i := by
  have hr : 8 * (i % 4) < 32 := by omega
  have hl : u32 (f (i / 4)) < 2 ^ (8 * (i % 4)) := by
    have e := lim_V f hi
    rw [← e, u32_lim, hV]
    refine Nat.lt_of_le_of_lt (Nat.mod_le _ _) (Nat.div_lt_of_lt_mul ?_)
    rw [← p256]
    exact hv
  have hs : u32 (nI b <<< (nI (8 * (i % 4)) &&& 31)) = 2 ^ (8 * (i % 4)) * b := by
    have h1 : u32 (nI b <<< (nI (8 * (i % 4)) &&& 31)) = u32 (nI b) * 2 ^ (8 * (i % 4)) % 2 ^ 32 := pk_shl _ _ _ (sl_n _ hr)
    have h2 : u32 (nI b) = b := pk_tn (by omega)
    rw [h1, h2, Nat.mul_comm]
    apply Nat.mod_eq_of_lt
    have h3 : (2 : Nat) ^ (8 * (i % 4)) ≤ 2 ^ 24 := Nat.pow_le_pow_right (by decide) (by omega)
    have h4 := Nat.mul_le_mul_right b h3
    omega
  have ho : u32 (f (i / 4) ||| nI b <<< (nI (8 * (i % 4)) &&& 31)) = 2 ^ (8 * (i % 4)) * b + u32 (f (i / 4)) := by
    rw [Int32.or_comm]
    exact u32_or_dis hs rfl hl
  have hA := V_at (f := f) (x := f (i / 4) ||| nI b <<< (nI (8 * (i % 4)) &&& 31)) hi
  rw [ho, hV, Nat.add_mul, Nat.mul_comm _ b, Nat.mul_assoc b, Nat.mul_comm (2 ^ (8 * (i % 4))), ← p256] at hA
  omega
set_option maxHeartbeats 2000000 in
theorem load_ok (g : GX) {h : AH} {b to fr many n nb nt : Nat} {rb : Bool} {fb ft : Nat → Int32} (hb : h b = some (Ai rb 2 nb fb)) (ht : h to = some (Ai false 0 nt ft)) (h1 : fr + many ≤ nb) (h2 : nb < 2 ^ 31) (h3 : n ≤ nt) (h4 : nt < 2 ^ 31) (h5 : many ≤ 4 * n) :
    MT g MX10_load ({ frames := 0, cells := 0, slots := 0, locals := 0 } : Room) [.ref b, .int (nI fr), .int (nI many), .ref to, .int (nI n)] h (RV fun h' => ∃ f, V n f = bsm fb (fr + many) many ∧ (∀ j, n ≤ j → f j = ft j) ∧ h' = hset h to (Ai false 0 nt f)) := by
  refine MT.of (by decide) (Nat.le_of_ble_eq_true rfl) ?_
  have hne : b ≠ to := fun e => by subst e; rw [hb] at ht; cases ht
  generalize hPost : (RV fun h' => ∃ f, V n f = bsm fb (fr + many) many ∧ (∀ j, n ≤ j → f j = ft j) ∧ h' = hset h to (Ai false 0 nt f)) = Post
  have loop2 : ∀ m i, i + m = many → ∀ f : Nat → Int32, V n f = bsm fb (fr + many) i → (∀ j, n ≤ j → f j = ft j) → XX g MX10_load ({ frames := 0, cells := 0, slots := 0, locals := 0 } : Room) Post 0 0 24 [(5, .int (nI i)), (0, .ref b), (1, .int (nI fr)), (2, .int (nI many)), (3, .ref to), (4, .int (nI n))] [] (hset h to (Ai false 0 nt f)) := by
    intro m
    induction m with
    | zero =>
      intro i hi f hv hf
      refine X_iload (pc := 24) 0 dX10_load_24 rfl ?_
      refine X_iload_n (pc := 26) 3 dX10_load_26 rfl rfl ?_
      refine X_cge (pc := 27) 67 dX10_load_27 (by decide) (by omega) (by omega) (fun _ => ?_) (fun c => absurd c (by omega))
      subst hPost
      refine X_return (pc := 67) dX10_load_67 rfl (Nat.le_of_ble_eq_true rfl) (Nat.le_of_ble_eq_true rfl) ?_
      have e : i = many := by omega
      subst e
      exact ⟨rfl, f, hv, hf, rfl⟩
    | succ m ih =>
      intro i hi f hv hf
      have ci : (nI (i / 4)).toNatClampNeg = i / 4 := nI_clamp (by omega)
      have cb : (nI (fr + many - 1 - i)).toNatClampNeg = fr + many - 1 - i := nI_clamp (by omega)
      have b1 : vp_in (nI (i / 4)) nt := vp_in_nI (by omega) (by omega)
      have b2 : vp_in (nI (fr + many - 1 - i)) nb := vp_in_nI (by omega) (by omega)
      have c1 := hset_self h to (Ai false 0 nt f)
      have c2 : hset h to (Ai false 0 nt f) b = some (Ai rb 2 nb fb) := by rw [hset_ne hne]; exact hb
      have d1 : nI i / 4 = nI (i / 4) := pk_div (d := 4) (by omega) (by decide) (by decide)
      have d2 : nI i - nI i / 4 * 4 = nI (i % 4) := pk_rem (d := 4) (by omega) (by decide) (by decide)
      have d3 : nI fr + nI many - 1 - nI i = nI (fr + many - 1 - i) := by rw [nI_add, show (1 : Int32) = nI 1 from rfl, pk_sub (by omega), pk_sub (by omega)]
      have d4 : ∀ x : Int32, x &&& 255 = nI (b8 x) := fun x => pk_and x (m := 255) 8 rfl
      refine X_iload (pc := 24) 0 dX10_load_24 rfl ?_
      refine X_iload_n (pc := 26) 3 dX10_load_26 rfl rfl ?_
      refine X_cge (pc := 27) 67 dX10_load_27 (by decide) (by omega) (by omega) (fun c => absurd c (by omega)) (fun _ => ?_)
      refine X_aload_n (pc := 30) 4 dX10_load_30 rfl rfl ?_
      refine X_iload (pc := 31) 0 dX10_load_31 rfl ?_
      refine X_iconst (pc := 33) (x := 4) dX10_load_33 (by decide) ?_
      refine X_idiv (pc := 34) dX10_load_34 (by decide) ?_
      rw [d1]
      refine X_dup2_11 (pc := 35) dX10_load_35 rfl rfl ?_
      refine X_iaload (pc := 36) dX10_load_36 c1 b1 ?_
      refine X_aload_n (pc := 37) 1 dX10_load_37 rfl rfl ?_
      refine X_iload_n (pc := 38) 2 dX10_load_38 rfl rfl ?_
      refine X_iload_n (pc := 39) 3 dX10_load_39 rfl rfl ?_
      refine X_iadd (pc := 40) dX10_load_40 ?_
      refine X_iconst (pc := 41) (x := 1) dX10_load_41 (by decide) ?_
      refine X_isub (pc := 42) dX10_load_42 ?_
      refine X_iload (pc := 43) 0 dX10_load_43 rfl ?_
      refine X_isub (pc := 45) dX10_load_45 ?_
      rw [ci, d3]
      refine X_baload (pc := 46) dX10_load_46 c2 b2 ?_
      refine X_sipush (pc := 47) (x := 255) dX10_load_47 (by decide) ?_
      refine X_iand (pc := 50) dX10_load_50 ?_
      refine X_bipush (pc := 51) (x := 8) dX10_load_51 (by decide) ?_
      refine X_iload (pc := 53) 0 dX10_load_53 rfl ?_
      refine X_iconst (pc := 55) (x := 4) dX10_load_55 (by decide) ?_
      refine X_irem (pc := 56) dX10_load_56 (by decide) ?_
      rw [cb, d4, d2]
      refine X_imul (pc := 57) dX10_load_57 ?_
      refine X_ishl (pc := 58) dX10_load_58 ?_
      refine X_ior (pc := 59) dX10_load_59 ?_
      rw [show (8 : Int32) * nI (i % 4) = nI (8 * (i % 4)) from pk_mul 8 (i % 4)]
      refine X_iastore (pc := 60) dX10_load_60 c1 b1 ?_
      refine X_iinc (pc := 61) (L' := [(5, .int (_ + 1)), (0, .ref _), (1, .int _), (2, .int _), (3, .ref _), (4, .int _)]) 0 dX10_load_61 rfl rfl (Nat.le_of_ble_eq_true rfl) rfl ?_
      refine X_goto (pc := 64) 24 dX10_load_64 (by decide) ?_
      rw [ci, hset_hset, show nI i + 1 = nI (i + 1) from nI_add i 1]
      refine ih (i + 1) (by omega) _ ?_ (fun j hj => ?_)
      · exact b_put (by omega) hv (bsm_lt _ _ _) (Nat.mod_lt _ (by decide))
      · exact (if_neg (by omega)).trans (hf j hj)
  have loop1 : ∀ m i, i + m = n → ∀ f : Nat → Int32, (∀ j, j < i → f j = 0) → (∀ j, n ≤ j → f j = ft j) → XX g MX10_load ({ frames := 0, cells := 0, slots := 0, locals := 0 } : Room) Post 0 0 3 [(5, .int (nI i)), (0, .ref b), (1, .int (nI fr)), (2, .int (nI many)), (3, .ref to), (4, .int (nI n))] [] (hset h to (Ai false 0 nt f)) := by
    intro m
    induction m with
    | zero =>
      intro i hi f hz hf
      refine X_iload (pc := 3) 0 dX10_load_3 rfl ?_
      refine X_iload (pc := 5) 5 dX10_load_5 rfl ?_
      refine X_cge (pc := 7) 21 dX10_load_7 (by decide) (by omega) (by omega) (fun _ => ?_) (fun c => absurd c (by omega))
      refine X_iconst (pc := 21) (x := 0) dX10_load_21 (by decide) ?_
      refine X_istore (pc := 22) (L' := [(5, .int _), (0, .ref _), (1, .int _), (2, .int _), (3, .ref _), (4, .int _)]) dX10_load_22 (Nat.le_of_ble_eq_true rfl) rfl ?_
      refine loop2 many 0 (by omega) f ?_ hf
      have e : i = n := by omega
      subst e
      exact V_zeros hz
    | succ m ih =>
      intro i hi f hz hf
      have ci : (nI i).toNatClampNeg = i := nI_clamp (by omega)
      have b1 : vp_in (nI i) nt := vp_in_nI (by omega) (by omega)
      have c1 := hset_self h to (Ai false 0 nt f)
      refine X_iload (pc := 3) 0 dX10_load_3 rfl ?_
      refine X_iload (pc := 5) 5 dX10_load_5 rfl ?_
      refine X_cge (pc := 7) 21 dX10_load_7 (by decide) (by omega) (by omega) (fun c => absurd c (by omega)) (fun _ => ?_)
      refine X_aload_n (pc := 10) 4 dX10_load_10 rfl rfl ?_
      refine X_iload (pc := 11) 0 dX10_load_11 rfl ?_
      refine X_iconst (pc := 13) (x := 0) dX10_load_13 (by decide) ?_
      refine X_iastore (pc := 14) dX10_load_14 c1 b1 ?_
      refine X_iinc (pc := 15) (L' := [(5, .int (_ + 1)), (0, .ref _), (1, .int _), (2, .int _), (3, .ref _), (4, .int _)]) 0 dX10_load_15 rfl rfl (Nat.le_of_ble_eq_true rfl) rfl ?_
      refine X_goto (pc := 18) 3 dX10_load_18 (by decide) ?_
      rw [ci, hset_hset, show nI i + 1 = nI (i + 1) from nI_add i 1]
      refine ih (i + 1) (by omega) _ (fun j hj => ?_) (fun j hj => ?_)
      · by_cases e : j = i
        · exact if_pos e
        · exact (if_neg e).trans (hz j (by omega))
      · exact (if_neg (by omega)).trans (hf j hj)
  refine X_iconst (pc := 0) (x := 0) dX10_load_0 (by decide) ?_
  refine X_istore (pc := 1) (L' := [(5, .int _), (0, .ref _), (1, .int _), (2, .int _), (3, .ref _), (4, .int _)]) dX10_load_1 (Nat.le_of_ble_eq_true rfl) rfl ?_
  have := loop1 n 0 (by omega) ft (fun j hj => absurd hj (by omega)) (fun _ _ => rfl)
  rw [hset_same ht] at this
  exact this
