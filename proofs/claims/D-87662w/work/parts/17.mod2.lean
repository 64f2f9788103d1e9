set_option maxRecDepth 100000
/-- Integer.compare, Integer.compareUnsigned -/
theorem icompare_ok (g : GX) (h : AH) (x y : Int32) : MT g MJ4_compare ({ frames := 0, cells := 0, slots := 0, locals := 0 } : Room) [.int x, .int y] h (RI fun r h' => r = (if x < y then -1 else if x = y then 0 else 1) ∧ h' = h) := by
  refine MT.of (by decide) (Nat.le_of_ble_eq_true rfl) ?_
  refine X_iload_n (pc := 0) 0 dJ4_compare_0 rfl rfl ?_
  refine X_iload_n (pc := 1) 1 dJ4_compare_1 rfl rfl ?_
  refine X_icmp_ge (pc := 2) 9 dJ4_compare_2 (by decide) (fun c_2 => ?_) (fun c_2 => ?_)
  · refine X_iload_n (pc := 9) 0 dJ4_compare_9 rfl rfl ?_
    refine X_iload_n (pc := 10) 1 dJ4_compare_10 rfl rfl ?_
    refine X_icmp_ne (pc := 11) 18 dJ4_compare_11 (by decide) (fun c_11 => ?_) (fun c_11 => ?_)
    · refine X_iconst (pc := 18) (x := 1) dJ4_compare_18 (by decide) ?_
      refine X_ireturn (pc := 19) dJ4_compare_19 rfl (Nat.le_of_ble_eq_true rfl) (Nat.le_of_ble_eq_true rfl) ?_
      exact ⟨1, rfl, by rw [if_neg (Int32.not_lt.mpr c_2), if_neg c_11], rfl⟩
    · refine X_iconst (pc := 14) (x := 0) dJ4_compare_14 (by decide) ?_
      refine X_goto (pc := 15) 19 dJ4_compare_15 (by decide) ?_
      refine X_ireturn (pc := 19) dJ4_compare_19 rfl (Nat.le_of_ble_eq_true rfl) (Nat.le_of_ble_eq_true rfl) ?_
      exact ⟨0, rfl, by rw [if_neg (Int32.not_lt.mpr c_2), if_pos c_11], rfl⟩
  · refine X_iconst (pc := 5) (x := (-1)) dJ4_compare_5 (by decide) ?_
    refine X_goto (pc := 6) 19 dJ4_compare_6 (by decide) ?_
    refine X_ireturn (pc := 19) dJ4_compare_19 rfl (Nat.le_of_ble_eq_true rfl) (Nat.le_of_ble_eq_true rfl) ?_
    exact ⟨-1, rfl, by rw [if_pos (Int32.not_le.mp c_2)], rfl⟩
theorem flip_lt (x y : Int32) : x + (-2147483648) < y + (-2147483648) ↔ u32 x < u32 y := by
  have h1 := toInt_u32 (x + (-2147483648))
  have h2 := toInt_u32 (y + (-2147483648))
  have e1 := u32_add x (-2147483648)
  have e2 := u32_add y (-2147483648)
  have e : u32 (-2147483648) = 2 ^ 31 := by decide
  have l1 := u32_lt x
  have l2 := u32_lt y
  rw [Int32.lt_iff_toInt_lt, h1, h2, e1, e2, e]
  split <;> split <;> omega
theorem cmpU_ok (g : GX) (h : AH) (x y : Int32) : MT g MJ4_compareUnsigned ({ frames := 1, cells := 0, slots := 0, locals := 21 } : Room) [.int x, .int y] h (RI fun r h' => r = (if u32 x < u32 y then -1 else if u32 x = u32 y then 0 else 1) ∧ h' = h) := by
  refine MT.of (by decide) (Nat.le_of_ble_eq_true rfl) ?_
  refine X_iload_n (pc := 0) 0 dJ4_compareUnsigned_0 rfl rfl ?_
  refine X_ldc (pc := 1) dJ4_compareUnsigned_1 q273 ?_
  refine X_iadd (pc := 3) dJ4_compareUnsigned_3 ?_
  refine X_iload_n (pc := 4) 1 dJ4_compareUnsigned_4 rfl rfl ?_
  refine X_ldc (pc := 5) dJ4_compareUnsigned_5 q273 ?_
  refine X_iadd (pc := 7) dJ4_compareUnsigned_7 ?_
  refine X_isi (pc := 8) _ dJ4_compareUnsigned_8 cs_J4_259 rfl (icompare_ok g h _ _) nJ4_compare (Nat.le_of_ble_eq_true rfl) (Nat.le_of_ble_eq_true rfl) (Nat.le_of_ble_eq_true rfl) (Nat.le_of_ble_eq_true rfl) (fun r h' q => ?_)
  obtain ⟨er, eh⟩ := q
  refine X_ireturn (pc := 11) dJ4_compareUnsigned_11 rfl (Nat.le_of_ble_eq_true rfl) (Nat.le_of_ble_eq_true rfl) ?_
  refine ⟨r, rfl, ?_, eh⟩
  rw [er]
  by_cases c1 : u32 x < u32 y
  · rw [if_pos ((flip_lt x y).mpr c1), if_pos c1]
  · rw [if_neg (fun z => c1 ((flip_lt x y).mp z)), if_neg c1]
    by_cases c2 : x = y
    · subst c2
      rw [if_pos rfl, if_pos rfl]
    · rw [if_neg (fun z => c2 (u32_inj z)), if_neg]
      intro z
      apply c2
      have := congrArg (fun w => w - (-2147483648)) z
      simpa using this
theorem copy_ok (g : GX) {h : AH} {a b n nb : Nat} {fa fb : Nat → Int32} (ha : h a = some (Ai false 0 n fa)) (hb : h b = some (Ai false 0 nb fb)) (hn : n ≤ nb) (hl : nb < 2 ^ 31) :
    MT g MX6_copy ({ frames := 1, cells := 0, slots := 0, locals := 48 } : Room) [.ref a, .ref b] h (RV fun h' => h' = hset h b (Ai false 0 nb (va_cpy fa fb 0 0 n))) := by
  refine MT.of (by decide) (Nat.le_of_ble_eq_true rfl) ?_
  refine X_aload_n (pc := 0) 0 dX6_copy_0 rfl rfl ?_
  refine X_iconst (pc := 1) (x := 0) dX6_copy_1 (by decide) ?_
  refine X_aload_n (pc := 2) 1 dX6_copy_2 rfl rfl ?_
  refine X_iconst (pc := 3) (x := 0) dX6_copy_3 (by decide) ?_
  refine X_aload_n (pc := 4) 0 dX6_copy_4 rfl rfl ?_
  refine X_alenI (pc := 5) dX6_copy_5 ha (fun _ => rfl) ?_
  refine X_copyI (pc := 6) 0 0 n dX6_copy_6 q256 (Or.inl rfl) ha hb rfl rfl rfl (by omega) (by omega) ⟨by omega, hl⟩ (Nat.le_of_ble_eq_true rfl) (Nat.le_of_ble_eq_true rfl) ?_
  refine X_return (pc := 9) dX6_copy_9 rfl (Nat.le_of_ble_eq_true rfl) (Nat.le_of_ble_eq_true rfl) ?_
  exact ⟨rfl, rfl⟩
/-- an or over limbs is 0 when the number is -/
def orL : Nat → (Nat → Int32) → Int32
  | 0, _ => 0
  | n + 1, f => orL n f ||| f n
theorem or0 (x y : Int32) : x ||| y = 0 ↔ x = 0 ∧ y = 0 := by
  have e : ∀ z : Int32, z = 0 ↔ z.toBitVec = 0#32 := fun z => by rw [← Int32.toBitVec_inj]; rfl
  rw [e, e, e, Int32.toBitVec_or, BitVec.or_eq_zero_iff]
theorem u32_0 {x : Int32} : u32 x = 0 ↔ x = 0 := ⟨fun h => u32_inj (by rw [h]; rfl), fun h => by rw [h]; rfl⟩
theorem orL_0 (n : Nat) (f : Nat → Int32) : orL n f = 0 ↔ V n f = 0 := by
  induction n with
  | zero => exact ⟨fun _ => rfl, fun _ => rfl⟩
  | succ n ih =>
    show orL n f ||| f n = 0 ↔ V n f + u32 (f n) * 2 ^ (32 * n) = 0
    rw [or0, ih, ← u32_0]
    have hp : 0 < 2 ^ (32 * n) := Nat.two_pow_pos _
    constructor
    · rintro ⟨h1, h2⟩
      rw [h1, h2, Nat.zero_mul]
    · intro h
      refine ⟨by omega, ?_⟩
      have h2 : u32 (f n) * 2 ^ (32 * n) = 0 := by omega
      rcases Nat.mul_eq_zero.mp h2 with h3 | h3
      · exact h3
      · omega
theorem isZero_loop (g : GX) {h : AH} {a n : Nat} {ra : Bool} {fa : Nat → Int32} (Q : Outcome → AH → Prop) (ha : h a = some (Ai ra 0 n fa)) (hn : n < 2 ^ 31) (hQ : Q (.returned (some (.int (if V n fa = 0 then 1 else 0)))) h) :
    ∀ (m k : Nat), n = k + m → XX g MX6_isZero ({ frames := 0, cells := 0, slots := 0, locals := 0 } : Room) Q 0 0 4 [(2, .int (nI k)), (1, .int (orL k fa)), (0, .ref a)] [] h := by
  intro m
  induction m with
  | zero =>
    intro k hk
    obtain rfl : n = k := hk
    refine X_iload_n (pc := 4) 0 dX6_isZero_4 rfl rfl ?_
    refine X_aload_n (pc := 5) 2 dX6_isZero_5 rfl rfl ?_
    refine X_alenI (pc := 6) dX6_isZero_6 (by assumption) (fun _ => rfl) ?_
    refine X_icmp_ge (pc := 7) 22 dX6_isZero_7 (by decide) (fun c_7 => ?_) (fun c_7 => ?_)
    · refine X_iload_n (pc := 22) 1 dX6_isZero_22 rfl rfl ?_
      refine X_if_ne (pc := 23) 30 dX6_isZero_23 (by decide) (fun c_23 => ?_) (fun c_23 => ?_)
      · refine X_iconst (pc := 30) (x := 0) dX6_isZero_30 (by decide) ?_
        rw [if_neg (fun z => c_23 ((orL_0 n fa).mpr z))] at hQ
        refine X_zreturn (pc := 31) dX6_isZero_31 rfl (by first | exact Or.inl rfl | exact Or.inr rfl | assumption) (Nat.le_of_ble_eq_true rfl) (Nat.le_of_ble_eq_true rfl) ?_
        exact hQ
      · refine X_iconst (pc := 26) (x := 1) dX6_isZero_26 (by decide) ?_
        refine X_goto (pc := 27) 31 dX6_isZero_27 (by decide) ?_
        rw [if_pos ((orL_0 n fa).mp c_23)] at hQ
        refine X_zreturn (pc := 31) dX6_isZero_31 rfl (by first | exact Or.inl rfl | exact Or.inr rfl | assumption) (Nat.le_of_ble_eq_true rfl) (Nat.le_of_ble_eq_true rfl) ?_
        exact hQ
    · exact absurd (Int32.le_refl (nI n)) c_7
  | succ m ih =>
    intro k hk
    have b1 : vp_in (nI k) n := vp_in_nI (by omega) (by omega)
    have ck : (nI k).toNatClampNeg = k := nI_clamp (by omega)
    refine X_iload_n (pc := 4) 0 dX6_isZero_4 rfl rfl ?_
    refine X_aload_n (pc := 5) 2 dX6_isZero_5 rfl rfl ?_
    refine X_alenI (pc := 6) dX6_isZero_6 (by assumption) (fun _ => rfl) ?_
    refine X_icmp_ge (pc := 7) 22 dX6_isZero_7 (by decide) (fun c_7 => ?_) (fun c_7 => ?_)
    · exact absurd c_7 (nI_ge (by omega) (by omega))
    · refine X_iload_n (pc := 10) 1 dX6_isZero_10 rfl rfl ?_
      refine X_aload_n (pc := 11) 2 dX6_isZero_11 rfl rfl ?_
      refine X_iload_n (pc := 12) 0 dX6_isZero_12 rfl rfl ?_
      refine X_iaload (pc := 13) dX6_isZero_13 (by assumption) (by assumption) ?_
      refine X_ior (pc := 14) dX6_isZero_14 ?_
      rw [ck]
      refine X_istore_n (pc := 15) (L' := [(1, .int _), (2, .int _), (0, .ref _)]) dX6_isZero_15 rfl (Nat.le_of_ble_eq_true rfl) rfl ?_
      refine X_iinc (pc := 16) (L' := [(2, .int (_ + 1)), (1, .int _), (0, .ref _)]) 1 dX6_isZero_16 rfl rfl (Nat.le_of_ble_eq_true rfl) rfl ?_
      refine X_goto (pc := 19) 4 dX6_isZero_19 (by decide) ?_
      rw [nI_1]
      exact ih (k + 1) (by omega)
theorem isZero_ok (g : GX) {h : AH} {a n : Nat} {ra : Bool} {fa : Nat → Int32} (ha : h a = some (Ai ra 0 n fa)) (hn : n < 2 ^ 31) : MT g MX6_isZero ({ frames := 0, cells := 0, slots := 0, locals := 0 } : Room) [.ref a] h (RI fun r h' => r = (if V n fa = 0 then 1 else 0) ∧ h' = h) := by
  refine MT.of (by decide) (Nat.le_of_ble_eq_true rfl) ?_
  refine X_iconst (pc := 0) (x := 0) dX6_isZero_0 (by decide) ?_
  refine X_istore_n (pc := 1) (L' := [(1, .int _), (0, .ref _)]) dX6_isZero_1 rfl (Nat.le_of_ble_eq_true rfl) rfl ?_
  refine X_iconst (pc := 2) (x := 0) dX6_isZero_2 (by decide) ?_
  refine X_istore_n (pc := 3) (L' := [(2, .int _), (1, .int _), (0, .ref _)]) dX6_isZero_3 rfl (Nat.le_of_ble_eq_true rfl) rfl ?_
  exact isZero_loop g _ ha hn ⟨_, rfl, rfl, rfl⟩ n 0 (by omega)
/-- the order of numbers by their highest limb that differs -/
theorem V_cmp {n k : Nat} {f f' : Nat → Int32} (hk : k < n) (he : ∀ j, k < j → j < n → f j = f' j) (hl : u32 (f k) < u32 (f' k)) : V n f < V n f' := by
  induction n with
  | zero => omega
  | succ n ih =>
    show V n f + u32 (f n) * 2 ^ (32 * n) < V n f' + u32 (f' n) * 2 ^ (32 * n)
    by_cases e : k = n
    · subst e
      have h1 := V_lt k f
      have h2 : (u32 (f k) + 1) * 2 ^ (32 * k) ≤ u32 (f' k) * 2 ^ (32 * k) := Nat.mul_le_mul_right _ hl
      rw [Nat.add_mul, Nat.one_mul] at h2
      omega
    · rw [he n (by omega) (by omega)]
      have := ih (by omega) (fun j h1 h2 => he j h1 (by omega))
      omega
theorem m1 (x : Int32) : x + (-1) = x - 1 := by rw [Int32.sub_eq_add_neg]
def cmpN (x y : Nat) : Int32 := if x < y then -1 else if x = y then 0 else 1
theorem compare_loop (g : GX) {h : AH} {a b n nb : Nat} {ra rb : Bool} {fa fb : Nat → Int32} (Q : Outcome → AH → Prop) (ha : h a = some (Ai ra 0 n fa)) (hb : h b = some (Ai rb 0 nb fb)) (hnb : n ≤ nb) (hn : nb < 2 ^ 31) (hQ : Q (.returned (some (.int (cmpN (V n fa) (V n fb))))) h) :
    ∀ (k : Nat), k ≤ n → (∀ j, k ≤ j → j < n → fa j = fb j) → XX g MX6_compare ({ frames := 2, cells := 0, slots := 0, locals := 42 } : Room) Q 0 0 5 [(2, .int (nI k - 1)), (0, .ref a), (1, .ref b)] [] h := by
  intro k
  induction k with
  | zero =>
    intro hk he
    refine X_iload_n (pc := 5) 0 dX6_compare_5 rfl rfl ?_
    refine X_if_lt (pc := 6) 34 dX6_compare_6 (by decide) (fun c_6 => ?_) (fun c_6 => ?_)
    · refine X_iconst (pc := 34) (x := 0) dX6_compare_34 (by decide) ?_
      have e : cmpN (V n fa) (V n fb) = 0 := by
        unfold cmpN
        rw [V_congr (fun j hj => he j (by omega) hj), if_neg (Nat.lt_irrefl _), if_pos rfl]
      rw [e] at hQ
      refine X_ireturn (pc := 35) dX6_compare_35 rfl (Nat.le_of_ble_eq_true rfl) (Nat.le_of_ble_eq_true rfl) ?_
      exact hQ
    · exact absurd (show nI 0 - 1 < 0 by decide) c_6
  | succ k ih =>
    intro hk he
    have ck : (nI k).toNatClampNeg = k := nI_clamp (by omega)
    have b1 : vp_in (nI k) n := vp_in_nI (by omega) (by omega)
    have b2 : vp_in (nI k) nb := vp_in_nI (by omega) (by omega)
    rw [nI_pred]
    refine X_iload_n (pc := 5) 0 dX6_compare_5 rfl rfl ?_
    refine X_if_lt (pc := 6) 34 dX6_compare_6 (by decide) (fun c_6 => ?_) (fun c_6 => ?_)
    · exact absurd c_6 (nI_pos (by omega))
    · refine X_aload_n (pc := 9) 1 dX6_compare_9 rfl rfl ?_
      refine X_iload_n (pc := 10) 0 dX6_compare_10 rfl rfl ?_
      refine X_iaload (pc := 11) dX6_compare_11 (by assumption) (by assumption) ?_
      refine X_aload_n (pc := 12) 2 dX6_compare_12 rfl rfl ?_
      refine X_iload_n (pc := 13) 0 dX6_compare_13 rfl rfl ?_
      refine X_iaload (pc := 14) dX6_compare_14 (by assumption) (by assumption) ?_
      rw [ck]
      refine X_icmp_eq (pc := 15) 28 dX6_compare_15 (by decide) (fun c_15 => ?_) (fun c_15 => ?_)
      · refine X_iinc (pc := 28) (L' := [(2, .int (_ + (-1))), (0, .ref _), (1, .ref _)]) 0 dX6_compare_28 rfl rfl (Nat.le_of_ble_eq_true rfl) rfl ?_
        refine X_goto (pc := 31) 5 dX6_compare_31 (by decide) ?_
        rw [m1]
        refine ih (by omega) (fun j h1 h2 => ?_)
        by_cases e : j = k
        · subst e; exact c_15
        · exact he j (by omega) h2
      · skip
        refine X_aload_n (pc := 18) 1 dX6_compare_18 rfl rfl ?_
        refine X_iload_n (pc := 19) 0 dX6_compare_19 rfl rfl ?_
        refine X_iaload (pc := 20) dX6_compare_20 (by assumption) (by assumption) ?_
        refine X_aload_n (pc := 21) 2 dX6_compare_21 rfl rfl ?_
        refine X_iload_n (pc := 22) 0 dX6_compare_22 rfl rfl ?_
        refine X_iaload (pc := 23) dX6_compare_23 (by assumption) (by assumption) ?_
        rw [ck]
        refine X_isi (pc := 24) _ dX6_compare_24 cs_X6_58 rfl (cmpU_ok g h _ _) nJ4_compareUnsigned (Nat.le_of_ble_eq_true rfl) (Nat.le_of_ble_eq_true rfl) (Nat.le_of_ble_eq_true rfl) (Nat.le_of_ble_eq_true rfl) (fun r h' q => ?_)
        obtain ⟨er, eh⟩ := q
        subst eh
        have e : r = cmpN (V n fa) (V n fb) := by
          rw [er]
          unfold cmpN
          by_cases c1 : u32 (fa k) < u32 (fb k)
          · rw [if_pos c1, if_pos (V_cmp (by omega) (fun j h1 h2 => he j (by omega) h2) c1)]
          · rw [if_neg c1]
            by_cases c2 : u32 (fa k) = u32 (fb k)
            · exact absurd (u32_inj c2) c_15
            · have := V_cmp (f := fb) (f' := fa) (n := n) (k := k) (by omega) (fun j h1 h2 => (he j (by omega) h2).symm) (by omega)
              rw [if_neg c2, if_neg (by omega), if_neg (by omega)]
        rw [← e] at hQ
        refine X_ireturn (pc := 27) dX6_compare_27 rfl (Nat.le_of_ble_eq_true rfl) (Nat.le_of_ble_eq_true rfl) ?_
        exact hQ
theorem compare_ok (g : GX) {h : AH} {a b n nb : Nat} {ra rb : Bool} {fa fb : Nat → Int32} (ha : h a = some (Ai ra 0 n fa)) (hb : h b = some (Ai rb 0 nb fb)) (hnb : n ≤ nb) (hn : nb < 2 ^ 31) :
    MT g MX6_compare ({ frames := 2, cells := 0, slots := 0, locals := 42 } : Room) [.ref a, .ref b] h (RI fun r h' => r = cmpN (V n fa) (V n fb) ∧ h' = h) := by
  refine MT.of (by decide) (Nat.le_of_ble_eq_true rfl) ?_
  refine X_aload_n (pc := 0) 0 dX6_compare_0 rfl rfl ?_
  refine X_alenI (pc := 1) dX6_compare_1 (by assumption) (fun _ => rfl) ?_
  refine X_iconst (pc := 2) (x := 1) dX6_compare_2 (by decide) ?_
  refine X_isub (pc := 3) dX6_compare_3 ?_
  refine X_istore_n (pc := 4) (L' := [(2, .int _), (0, .ref _), (1, .ref _)]) dX6_compare_4 rfl (Nat.le_of_ble_eq_true rfl) rfl ?_
  exact compare_loop g _ ha hb hnb hn ⟨_, rfl, rfl, rfl⟩ n (Nat.le_refl n) (fun j h1 h2 => by omega)
