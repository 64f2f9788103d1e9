set_option maxRecDepth 100000
/-! THE REFERENCE'S NUMBERS (n limbs of an array) -/
theorem zo_if {c : Prop} [Decidable c] : (if c then (1 : Int32) else 0) = 0 ∨ (if c then (1 : Int32) else 0) = 1 := by
  split
  · exact Or.inr rfl
  · exact Or.inl rfl
theorem loop_up {P : Nat → Prop} (n : Nat) (hx : P n) (hs : ∀ k, k < n → P (k + 1) → P k) : ∀ k, k ≤ n → P k := by
  have key : ∀ m k, n = k + m → P k := by
    intro m
    induction m with
    | zero => intro k hk; rw [Nat.add_zero] at hk; subst hk; exact hx
    | succ m ih => intro k hk; exact hs k (by omega) (ih (k + 1) (by omega))
  exact fun k hk => key (n - k) k (by omega)
section XA
variable {g : GX} {M : MI} {rm : Room} {Q : Outcome → AH → Prop} {k n pc : Nat} {L : List (Nat × Value)} {st : List Value} {h : AH}
theorem X_cge {a b : Nat} {off : Int} (tgt : Nat) (hdg : decode M.2.1 pc = .ok (.if_icmp .ge off, 3)) (ht : (pc : Int) + off = (tgt : Int)) (hb : b < 2 ^ 31) (hab : a ≤ b) (kt : a = b → XX g M rm Q k n tgt L st h) (kf : a < b → XX g M rm Q k n (pc + 3) L st h) : XX g M rm Q k n pc L (.int (nI b) :: .int (nI a) :: st) h := by
  refine X_icmp_ge tgt hdg ht (fun c => kt ?_) (fun c => kf ?_)
  · have := (nI_leI hb (by omega)).mp c; omega
  · exact Nat.lt_of_not_le fun z => c ((nI_leI hb (by omega)).mpr z)
end XA
theorem low_lN (x : Int32) : x.toInt64 &&& 4294967295 = lN (u32 x) := by
  apply u64_inj
  have := u32_lt x
  rw [u64_low]
  show _ = u64 (Int64.ofNat _)
  rw [u64_ofNat, Nat.mod_eq_of_lt (by omega)]
theorem mu_ok (g : GX) (h : AH) (x : Int32) : MT g MX10_u ({ frames := 0, cells := 0, slots := 0, locals := 0 } : Room) [.int x] h (RL fun r h' => r = lN (u32 x) ∧ h' = h) := by
  refine MT.of (by decide) (Nat.le_of_ble_eq_true rfl) ?_
  refine X_iload_n (pc := 0) 0 dX10_u_0 rfl rfl ?_
  refine X_i2l (pc := 1) dX10_u_1 ?_
  refine X_ldc2 (pc := 2) dX10_u_2 q1402 ?_
  refine X_land (pc := 5) dX10_u_5 ?_
  rw [low_lN]
  refine X_lreturn (pc := 6) dX10_u_6 rfl (Nat.le_of_ble_eq_true rfl) (Nat.le_of_ble_eq_true rfl) ?_
  exact ⟨_, rfl, rfl, rfl⟩
theorem lg_cmpN {a b : Nat} (ha : a < 2 ^ 32) (hb : b < 2 ^ 32) : (0 : Int32) ≤ lg_cmp (lN a) (lN b) ↔ b ≤ a := by
  rw [lg_cmp_ge, pk_lLE (by omega) (by omega)]
theorem mcmp_ok (g : GX) {h : AH} {a b n na nb : Nat} {ra rb : Bool} {fa fb : Nat → Int32} (ha : h a = some (Ai ra 0 na fa)) (hb : h b = some (Ai rb 0 nb fb)) (hna : n ≤ na) (hnb : n ≤ nb) (hn : na < 2 ^ 31 ∧ nb < 2 ^ 31) :
    MT g MX10_compare ({ frames := 1, cells := 0, slots := 0, locals := 20 } : Room) [.ref a, .ref b, .int (nI n)] h (RI fun r h' => r = cmpN (V n fa) (V n fb) ∧ h' = h) := by
  refine MT.of (by decide) (Nat.le_of_ble_eq_true rfl) ?_
  have loop : ∀ (k : Nat), k ≤ n → (∀ j, k ≤ j → j < n → fa j = fb j) → XX g MX10_compare ({ frames := 1, cells := 0, slots := 0, locals := 20 } : Room) (RI fun r h' => r = cmpN (V n fa) (V n fb) ∧ h' = h) 0 0 4 [(3, .int (nI k - 1)), (0, .ref a), (1, .ref b), (2, .int (nI n))] [] h := by
    intro k
    induction k with
    | zero =>
      intro hk he
      refine X_iload_n (pc := 4) 0 dX10_compare_4 rfl rfl ?_
      refine X_if_lt (pc := 5) 45 dX10_compare_5 (by decide) (fun c_5 => ?_) (fun c_5 => ?_)
      · refine X_iconst (pc := 45) (x := 0) dX10_compare_45 (by decide) ?_
        refine X_ireturn (pc := 46) dX10_compare_46 rfl (Nat.le_of_ble_eq_true rfl) (Nat.le_of_ble_eq_true rfl) ?_
        refine ⟨0, rfl, ?_, rfl⟩
        unfold cmpN
        rw [V_congr (fun j hj => he j (by omega) hj), if_neg (Nat.lt_irrefl _), if_pos rfl]
      · exact absurd (show nI 0 - 1 < 0 by decide) c_5
    | succ k ih =>
      intro hk he
      have ck : (nI k).toNatClampNeg = k := nI_clamp (by omega)
      have b1 : vp_in (nI k) na := vp_in_nI (by omega) (by omega)
      have b2 : vp_in (nI k) nb := vp_in_nI (by omega) (by omega)
      rw [nI_pred]
      refine X_iload_n (pc := 4) 0 dX10_compare_4 rfl rfl ?_
      refine X_if_lt (pc := 5) 45 dX10_compare_5 (by decide) (fun c_5 => ?_) (fun c_5 => ?_)
      · exact absurd c_5 (nI_pos (by omega))
      · refine X_aload_n (pc := 8) 1 dX10_compare_8 rfl rfl ?_
        refine X_iload_n (pc := 9) 0 dX10_compare_9 rfl rfl ?_
        refine X_iaload (pc := 10) dX10_compare_10 (by assumption) (by assumption) ?_
        refine X_aload_n (pc := 11) 2 dX10_compare_11 rfl rfl ?_
        refine X_iload_n (pc := 12) 0 dX10_compare_12 rfl rfl ?_
        refine X_iaload (pc := 13) dX10_compare_13 (by assumption) (by assumption) ?_
        rw [ck]
        refine X_icmp_eq (pc := 14) 39 dX10_compare_14 (by decide) (fun c_14 => ?_) (fun c_14 => ?_)
        · refine X_iinc (pc := 39) (L' := [(3, .int (_ + (-1))), (0, .ref _), (1, .ref _), (2, .int _)]) 0 dX10_compare_39 rfl rfl (Nat.le_of_ble_eq_true rfl) rfl ?_
          refine X_goto (pc := 42) 4 dX10_compare_42 (by decide) ?_
          rw [m1]
          refine ih (by omega) (fun j h1 h2 => ?_)
          by_cases e : j = k
          · subst e; exact c_14
          · exact he j (by omega) h2
        · skip
          refine X_aload_n (pc := 17) 1 dX10_compare_17 rfl rfl ?_
          refine X_iload_n (pc := 18) 0 dX10_compare_18 rfl rfl ?_
          refine X_iaload (pc := 19) dX10_compare_19 (by assumption) (by assumption) ?_
          rw [ck]
          refine X_isl (pc := 20) _ dX10_compare_20 cs_X10_9 rfl (mu_ok g h _) nX10_u (Nat.le_of_ble_eq_true rfl) (Nat.le_of_ble_eq_true rfl) (Nat.le_of_ble_eq_true rfl) (Nat.le_of_ble_eq_true rfl) (fun r1 h1 q1 => ?_)
          obtain ⟨rfl, rfl⟩ := q1
          refine X_aload_n (pc := 23) 2 dX10_compare_23 rfl rfl ?_
          refine X_iload_n (pc := 24) 0 dX10_compare_24 rfl rfl ?_
          refine X_iaload (pc := 25) dX10_compare_25 (by assumption) (by assumption) ?_
          rw [ck]
          refine X_isl (pc := 26) _ dX10_compare_26 cs_X10_9 rfl (mu_ok g h1 _) nX10_u (Nat.le_of_ble_eq_true rfl) (Nat.le_of_ble_eq_true rfl) (Nat.le_of_ble_eq_true rfl) (Nat.le_of_ble_eq_true rfl) (fun r2 h2 q2 => ?_)
          obtain ⟨rfl, rfl⟩ := q2
          have l1 := u32_lt (fa k)
          have l2 := u32_lt (fb k)
          have ne : u32 (fa k) ≠ u32 (fb k) := fun z => c_14 (u32_inj z)
          refine X_lcmp (pc := 29) dX10_compare_29 ?_
          refine X_if_ge (pc := 30) 37 dX10_compare_30 (by decide) (fun c_30 => ?_) (fun c_30 => ?_)
          · have c := (lg_cmpN l1 l2).mp c_30
            refine X_iconst (pc := 37) (x := 1) dX10_compare_37 (by decide) ?_
            refine X_ireturn (pc := 38) dX10_compare_38 rfl (Nat.le_of_ble_eq_true rfl) (Nat.le_of_ble_eq_true rfl) ?_
            refine ⟨1, rfl, ?_, rfl⟩
            have := V_cmp (f := fb) (f' := fa) (n := n) (k := k) (by omega) (fun j h1 h2 => (he j (by omega) h2).symm) (by omega)
            unfold cmpN
            rw [if_neg (by omega), if_neg (by omega)]
          · have c : u32 (fa k) < u32 (fb k) := Nat.lt_of_not_le fun z => c_30 ((lg_cmpN l1 l2).mpr z)
            refine X_iconst (pc := 33) (x := (-1)) dX10_compare_33 (by decide) ?_
            refine X_goto (pc := 34) 38 dX10_compare_34 (by decide) ?_
            refine X_ireturn (pc := 38) dX10_compare_38 rfl (Nat.le_of_ble_eq_true rfl) (Nat.le_of_ble_eq_true rfl) ?_
            refine ⟨-1, rfl, ?_, rfl⟩
            have := V_cmp (f := fa) (f' := fb) (n := n) (k := k) (by omega) (fun j h1 h2 => he j (by omega) h2) c
            unfold cmpN
            rw [if_pos this]
  refine X_iload_n (pc := 0) 2 dX10_compare_0 rfl rfl ?_
  refine X_iconst (pc := 1) (x := 1) dX10_compare_1 (by decide) ?_
  refine X_isub (pc := 2) dX10_compare_2 ?_
  refine X_istore_n (pc := 3) (L' := [(3, .int _), (0, .ref _), (1, .ref _), (2, .int _)]) dX10_compare_3 rfl (Nat.le_of_ble_eq_true rfl) rfl ?_
  exact loop n (Nat.le_refl n) (fun j h1 h2 => by omega)
theorem V_0 (n : Nat) (f : Nat → Int32) : V n f = 0 ↔ ∀ j, j < n → f j = 0 := by
  induction n with
  | zero => exact ⟨fun _ j hj => absurd hj (Nat.not_lt_zero j), fun _ => rfl⟩
  | succ n ih =>
    show V n f + u32 (f n) * 2 ^ (32 * n) = 0 ↔ _
    have hp : 0 < 2 ^ (32 * n) := Nat.two_pow_pos _
    constructor
    · intro h j hj
      have h1 : V n f = 0 := by omega
      have h2 : u32 (f n) * 2 ^ (32 * n) = 0 := by omega
      by_cases e : j = n
      · subst e
        rcases Nat.mul_eq_zero.mp h2 with h3 | h3
        · exact u32_0.mp h3
        · omega
      · exact ih.mp h1 j (by omega)
    · intro h
      rw [ih.mpr fun j hj => h j (by omega), u32_0.mpr (h n (by omega)), Nat.zero_mul]
theorem mzero_ok (g : GX) {h : AH} {a n na : Nat} {ra : Bool} {fa : Nat → Int32} (ha : h a = some (Ai ra 0 na fa)) (hna : n ≤ na) (hn : na < 2 ^ 31) :
    MT g MX10_isZero ({ frames := 0, cells := 0, slots := 0, locals := 0 } : Room) [.ref a, .int (nI n)] h (RI fun r h' => r = (if V n fa = 0 then 1 else 0) ∧ h' = h) := by
  refine MT.of (by decide) (Nat.le_of_ble_eq_true rfl) ?_
  have loop := loop_up (P := fun k => XX g MX10_isZero ({ frames := 0, cells := 0, slots := 0, locals := 0 } : Room) (RI fun r h' => r = (if V n fa = 0 then 1 else 0) ∧ h' = h) 0 0 4 [(3, .int (nI k)), (2, .int (if V k fa = 0 then 1 else 0)), (0, .ref a), (1, .int (nI n))] [] h) n
    (by
      refine X_iload_n (pc := 4) 0 dX10_isZero_4 rfl rfl ?_
      refine X_iload_n (pc := 5) 3 dX10_isZero_5 rfl rfl ?_
      refine X_cge (pc := 6) 31 dX10_isZero_6 (by decide) (by omega) (Nat.le_refl n) (fun _ => ?_) (fun c => absurd c (Nat.lt_irrefl _))
      refine X_iload_n (pc := 31) 1 dX10_isZero_31 rfl rfl ?_
      refine X_zreturn (pc := 32) dX10_isZero_32 rfl (by first | exact Or.inl rfl | exact Or.inr rfl | assumption | exact zo_if) (Nat.le_of_ble_eq_true rfl) (Nat.le_of_ble_eq_true rfl) ?_
      exact ⟨_, rfl, rfl, rfl⟩)
    (fun k hk ih => by
      have ck : (nI k).toNatClampNeg = k := nI_clamp (by omega)
      have b1 : vp_in (nI k) na := vp_in_nI (by omega) (by omega)
      have fin : ∀ x : Int32, x = (if V (k + 1) fa = 0 then 1 else 0) → XX g MX10_isZero ({ frames := 0, cells := 0, slots := 0, locals := 0 } : Room) (RI fun r h' => r = (if V n fa = 0 then 1 else 0) ∧ h' = h) 0 0 24 [(3, .int (nI k)), (2, .int (if V k fa = 0 then 1 else 0)), (0, .ref a), (1, .int (nI n))] [.int x] h := by
        intro x hx
        subst hx
        refine X_istore_n (pc := 24) (L' := [(2, .int _), (3, .int _), (0, .ref _), (1, .int _)]) dX10_isZero_24 rfl (Nat.le_of_ble_eq_true rfl) rfl ?_
        refine X_iinc (pc := 25) (L' := [(3, .int (_ + 1)), (2, .int _), (0, .ref _), (1, .int _)]) 1 dX10_isZero_25 rfl rfl (Nat.le_of_ble_eq_true rfl) rfl ?_
        refine X_goto (pc := 28) 4 dX10_isZero_28 (by decide) ?_
        rw [nI_1]
        exact ih
      refine X_iload_n (pc := 4) 0 dX10_isZero_4 rfl rfl ?_
      refine X_iload_n (pc := 5) 3 dX10_isZero_5 rfl rfl ?_
      refine X_cge (pc := 6) 31 dX10_isZero_6 (by decide) (by omega) (by omega) (fun c => absurd c (by omega)) (fun _ => ?_)
      refine X_iload_n (pc := 9) 1 dX10_isZero_9 rfl rfl ?_
      refine X_if_eq (pc := 10) 23 dX10_isZero_10 (by decide) (fun c_10 => ?_) (fun c_10 => ?_)
      · refine X_iconst (pc := 23) (x := 0) dX10_isZero_23 (by decide) ?_
        refine fin 0 ?_
        have h1 : ¬ V k fa = 0 := fun z => by rw [if_pos z] at c_10; exact absurd c_10 (by decide)
        rw [if_neg]
        intro z
        exact h1 ((V_0 k fa).mpr fun j hj => (V_0 (k + 1) fa).mp z j (by omega))
      · skip
        have h1 : V k fa = 0 := by
          apply Classical.byContradiction
          intro z
          rw [if_neg z] at c_10
          exact c_10 rfl
        refine X_aload_n (pc := 13) 2 dX10_isZero_13 rfl rfl ?_
        refine X_iload_n (pc := 14) 0 dX10_isZero_14 rfl rfl ?_
        refine X_iaload (pc := 15) dX10_isZero_15 (by assumption) (by assumption) ?_
        rw [ck]
        refine X_if_ne (pc := 16) 23 dX10_isZero_16 (by decide) (fun c_16 => ?_) (fun c_16 => ?_)
        · refine X_iconst (pc := 23) (x := 0) dX10_isZero_23 (by decide) ?_
          refine fin 0 ?_
          rw [if_neg]
          intro z
          exact c_16 ((V_0 (k + 1) fa).mp z k (by omega))
        · skip
          refine X_iconst (pc := 19) (x := 1) dX10_isZero_19 (by decide) ?_
          refine X_goto (pc := 20) 24 dX10_isZero_20 (by decide) ?_
          refine fin 1 ?_
          rw [if_pos]
          refine (V_0 (k + 1) fa).mpr fun j hj => ?_
          by_cases e : j = k
          · subst e; exact c_16
          · exact (V_0 k fa).mp h1 j (by omega))
  refine X_iconst (pc := 0) (x := 1) dX10_isZero_0 (by decide) ?_
  refine X_istore_n (pc := 1) (L' := [(2, .int _), (0, .ref _), (1, .int _)]) dX10_isZero_1 rfl (Nat.le_of_ble_eq_true rfl) rfl ?_
  refine X_iconst (pc := 2) (x := 0) dX10_isZero_2 (by decide) ?_
  refine X_istore_n (pc := 3) (L' := [(3, .int _), (2, .int _), (0, .ref _), (1, .int _)]) dX10_isZero_3 rfl (Nat.le_of_ble_eq_true rfl) rfl ?_
  exact loop 0 (Nat.zero_le n)
def cpN (n : Nat) (fa ft : Nat → Int32) : Nat → Int32 := fun j => if j < n then fa j else ft j
theorem cpN_0 (fa ft : Nat → Int32) : cpN 0 fa ft = ft := by
  funext j
  unfold cpN
  rw [if_neg (Nat.not_lt_zero j)]
theorem cpN_s (n : Nat) (fa ft : Nat → Int32) : upd (cpN n fa ft) n (fa n) = cpN (n + 1) fa ft := by
  funext j
  unfold upd cpN
  by_cases e : j = n
  · rw [if_pos e, if_pos (by omega), e]
  · rw [if_neg e]
    by_cases e2 : j < n
    · rw [if_pos e2, if_pos (by omega)]
    · rw [if_neg e2, if_neg (by omega)]
theorem cpN_at {n : Nat} {fa ft : Nat → Int32} {k : Nat} (h : n ≤ k) : cpN n fa ft k = ft k := if_neg (by omega)
theorem cpN_V {n : Nat} {fa ft : Nat → Int32} : V n (cpN n fa ft) = V n fa := V_congr fun _ hj => if_pos hj
theorem mcopy_ok (g : GX) {h : AH} {a b n na nb : Nat} {ra : Bool} {fa fb : Nat → Int32} (ha : h a = some (Ai ra 0 na fa)) (hb : h b = some (Ai false 0 nb fb)) (hna : n ≤ na) (hnb : n ≤ nb) (hn : na < 2 ^ 31 ∧ nb < 2 ^ 31) :
    MT g MX10_copy ({ frames := 0, cells := 0, slots := 0, locals := 0 } : Room) [.ref a, .ref b, .int (nI n)] h (RV fun h' => h' = hset h b (Ai false 0 nb (cpN n fa fb))) := by
  refine MT.of (by decide) (Nat.le_of_ble_eq_true rfl) ?_
  have loop := loop_up (P := fun k => XX g MX10_copy ({ frames := 0, cells := 0, slots := 0, locals := 0 } : Room) (RV fun h' => h' = hset h b (Ai false 0 nb (cpN n fa fb))) 0 0 2 [(3, .int (nI k)), (0, .ref a), (1, .ref b), (2, .int (nI n))] [] (hset h b (Ai false 0 nb (cpN k fa fb)))) n
    (by
      refine X_iload_n (pc := 2) 0 dX10_copy_2 rfl rfl ?_
      refine X_iload_n (pc := 3) 3 dX10_copy_3 rfl rfl ?_
      refine X_cge (pc := 4) 19 dX10_copy_4 (by decide) (by omega) (Nat.le_refl n) (fun _ => ?_) (fun c => absurd c (Nat.lt_irrefl _))
      refine X_return (pc := 19) dX10_copy_19 rfl (Nat.le_of_ble_eq_true rfl) (Nat.le_of_ble_eq_true rfl) ?_
      exact ⟨rfl, rfl⟩)
    (fun k hk ih => by
      have ck : (nI k).toNatClampNeg = k := nI_clamp (by omega)
      have b1 : vp_in (nI k) na := vp_in_nI (by omega) (by omega)
      have b2 : vp_in (nI k) nb := vp_in_nI (by omega) (by omega)
      obtain ⟨r1, f1, g1, e1⟩ := rdI k ha hb (cpN_at (fa := fa) (ft := fb) (Nat.le_refl k))
      refine X_iload_n (pc := 2) 0 dX10_copy_2 rfl rfl ?_
      refine X_iload_n (pc := 3) 3 dX10_copy_3 rfl rfl ?_
      refine X_cge (pc := 4) 19 dX10_copy_4 (by decide) (by omega) (by omega) (fun c => absurd c (by omega)) (fun _ => ?_)
      refine X_aload_n (pc := 7) 2 dX10_copy_7 rfl rfl ?_
      refine X_iload_n (pc := 8) 0 dX10_copy_8 rfl rfl ?_
      refine X_aload_n (pc := 9) 1 dX10_copy_9 rfl rfl ?_
      refine X_iload_n (pc := 10) 0 dX10_copy_10 rfl rfl ?_
      refine X_iaload (pc := 11) dX10_copy_11 g1 b1 ?_
      rw [ck, e1]
      refine X_iastore (pc := 12) dX10_copy_12 (hset_self _ _ _) b2 ?_
      refine X_iinc (pc := 13) (L' := [(3, .int (_ + 1)), (0, .ref _), (1, .ref _), (2, .int _)]) 0 dX10_copy_13 rfl rfl (Nat.le_of_ble_eq_true rfl) rfl ?_
      refine X_goto (pc := 16) 2 dX10_copy_16 (by decide) ?_
      refine XX.eqh (hset_hset _ _ _ _) ?_
      rw [ck, cpN_s, nI_1]
      exact ih)
  refine X_iconst (pc := 0) (x := 0) dX10_copy_0 (by decide) ?_
  refine X_istore_n (pc := 1) (L' := [(3, .int _), (0, .ref _), (1, .ref _), (2, .int _)]) dX10_copy_1 rfl (Nat.le_of_ble_eq_true rfl) rfl ?_
  refine XX.eqh (hset_same hb).symm ?_
  have := loop 0 (Nat.zero_le n)
  rw [cpN_0] at this
  exact this
def smN (n : Nat) (v : Int32) (ft : Nat → Int32) : Nat → Int32 := fun j => if j = 0 then v else if j < n then 0 else ft j
theorem smN_V {n : Nat} (h : 0 < n) {v : Int32} {ft : Nat → Int32} : V n (smN n v ft) = u32 v := by
  have key : ∀ m, 0 < m → m ≤ n → V m (smN n v ft) = u32 v := by
    intro m
    induction m with
    | zero => intro h0; omega
    | succ m ih =>
      intro _ hm
      show V m _ + u32 (smN n v ft m) * 2 ^ (32 * m) = _
      by_cases e : m = 0
      · subst e
        show 0 + u32 v * 2 ^ (32 * 0) = _
        omega
      · rw [ih (by omega) (by omega)]
        unfold smN
        rw [if_neg e, if_pos (by omega)]
        show u32 v + 0 * _ = _
        omega
  exact key n h (Nat.le_refl n)
theorem msmall_ok (g : GX) {h : AH} {b n nb : Nat} {v : Int32} {fb : Nat → Int32} (hb : h b = some (Ai false 0 nb fb)) (h0 : 0 < n) (hnb : n ≤ nb) (hn : nb < 2 ^ 31) :
    MT g MX10_small ({ frames := 0, cells := 0, slots := 0, locals := 0 } : Room) [.int v, .ref b, .int (nI n)] h (RV fun h' => h' = hset h b (Ai false 0 nb (smN n v fb))) := by
  refine MT.of (by decide) (Nat.le_of_ble_eq_true rfl) ?_
  have loop := loop_up (P := fun k => ∀ f : Nat → Int32, 1 ≤ k → (∀ j, 1 ≤ j → j < k → f j = 0) → (∀ j, k ≤ j → f j = fb j) → XX g MX10_small ({ frames := 0, cells := 0, slots := 0, locals := 0 } : Room) (RV fun h' => h' = hset h b (Ai false 0 nb (smN n v fb))) 0 0 2 [(3, .int (nI k)), (0, .int v), (1, .ref b), (2, .int (nI n))] [] (hset h b (Ai false 0 nb f))) n
    (by
      intro f _ h1 h2
      refine X_iload_n (pc := 2) 0 dX10_small_2 rfl rfl ?_
      refine X_iload_n (pc := 3) 3 dX10_small_3 rfl rfl ?_
      refine X_cge (pc := 4) 17 dX10_small_4 (by decide) (by omega) (Nat.le_refl n) (fun _ => ?_) (fun c => absurd c (Nat.lt_irrefl _))
      refine X_aload_n (pc := 17) 2 dX10_small_17 rfl rfl ?_
      refine X_iconst (pc := 18) (x := 0) dX10_small_18 (by decide) ?_
      refine X_iload_n (pc := 19) 1 dX10_small_19 rfl rfl ?_
      refine X_iastore (pc := 20) dX10_small_20 (hset_self _ _ _) (vp_in_nI (n := 0) (by omega) (by omega)) ?_
      refine XX.eqh (hset_hset _ _ _ _) ?_
      have e : upd f (0 : Int32).toNatClampNeg v = smN n v fb := by
        funext j
        show (if j = 0 then v else f j) = if j = 0 then v else if j < n then 0 else fb j
        by_cases e : j = 0
        · rw [if_pos e, if_pos e]
        · rw [if_neg e, if_neg e]
          by_cases e2 : j < n
          · rw [if_pos e2]; exact h1 j (by omega) e2
          · rw [if_neg e2]; exact h2 j (by omega)
      rw [e]
      refine X_return (pc := 21) dX10_small_21 rfl (Nat.le_of_ble_eq_true rfl) (Nat.le_of_ble_eq_true rfl) ?_
      exact ⟨rfl, rfl⟩)
    (fun k hk ih f hk1 h1 h2 => by
      have ck : (nI k).toNatClampNeg = k := nI_clamp (by omega)
      have b2 : vp_in (nI k) nb := vp_in_nI (by omega) (by omega)
      refine X_iload_n (pc := 2) 0 dX10_small_2 rfl rfl ?_
      refine X_iload_n (pc := 3) 3 dX10_small_3 rfl rfl ?_
      refine X_cge (pc := 4) 17 dX10_small_4 (by decide) (by omega) (by omega) (fun c => absurd c (by omega)) (fun _ => ?_)
      refine X_aload_n (pc := 7) 2 dX10_small_7 rfl rfl ?_
      refine X_iload_n (pc := 8) 0 dX10_small_8 rfl rfl ?_
      refine X_iconst (pc := 9) (x := 0) dX10_small_9 (by decide) ?_
      refine X_iastore (pc := 10) dX10_small_10 (hset_self _ _ _) b2 ?_
      refine X_iinc (pc := 11) (L' := [(3, .int (_ + 1)), (0, .int _), (1, .ref _), (2, .int _)]) 0 dX10_small_11 rfl rfl (Nat.le_of_ble_eq_true rfl) rfl ?_
      refine X_goto (pc := 14) 2 dX10_small_14 (by decide) ?_
      refine XX.eqh (hset_hset _ _ _ _) ?_
      rw [ck, nI_1]
      refine ih _ (by omega) (fun j j1 j2 => ?_) (fun j j1 => ?_)
      · by_cases e : j = k
        · subst e; exact pk_us
        · rw [pk_un e]; exact h1 j j1 (by omega)
      · rw [pk_un (by omega)]; exact h2 j (by omega))
  refine X_iconst (pc := 0) (x := 1) dX10_small_0 (by decide) ?_
  refine X_istore_n (pc := 1) (L' := [(3, .int _), (0, .int _), (1, .ref _), (2, .int _)]) dX10_small_1 rfl (Nat.le_of_ble_eq_true rfl) rfl ?_
  refine XX.eqh (hset_same hb).symm ?_
  exact loop 1 (by omega) fb (Nat.le_refl 1) (fun j h1 h2 => by omega) (fun _ _ => rfl)
theorem lsr32 {s : Nat} (hs : s < 2 ^ 64) : ((lN s).toUInt64 >>> ((32 : Int32).toInt64.toUInt64 &&& Int64.toUInt64 63)).toInt64 = lN (s / 2 ^ 32) := by
  apply u64_inj
  rw [u64_hi]
  show u64 (Int64.ofNat s) / _ = u64 (Int64.ofNat _)
  rw [u64_ofNat, u64_ofNat, Nat.mod_eq_of_lt hs, Nat.mod_eq_of_lt (by omega)]
theorem u32_nI (n : Nat) : u32 (nI n) = n % 2 ^ 32 := u32_ofNat n
/-- numbers of naturals: the sum with a carry -/
theorem V_addN {k : Nat} {f fa fb : Nat → Int32} {x : Int32} {w w' : Nat} (hv : V k f + w * 2 ^ (32 * k) = V k fa + V k fb) (h : u32 x + w' * 2 ^ 32 = u32 (fa k) + u32 (fb k) + w) :
    V k f + u32 x * 2 ^ (32 * k) + w' * 2 ^ (32 * (k + 1)) = V (k + 1) fa + V (k + 1) fb := by
  have e : (2 : Nat) ^ (32 * (k + 1)) = 2 ^ 32 * 2 ^ (32 * k) := by rw [← Nat.pow_add]; congr 1; omega
  show _ = V k fa + u32 (fa k) * 2 ^ (32 * k) + (V k fb + u32 (fb k) * 2 ^ (32 * k))
  rw [e]
  generalize (2 : Nat) ^ (32 * k) = K at hv ⊢
  have h2 : (u32 x + w' * 2 ^ 32) * K = (u32 (fa k) + u32 (fb k) + w) * K := by rw [h]
  grind
set_option maxHeartbeats 4000000 in
theorem mplus_ok (g : GX) {h : AH} {a b out n na nb no : Nat} {ra rb : Bool} {fa fb fo : Nat → Int32} (ha : h a = some (Ai ra 0 na fa)) (hb : h b = some (Ai rb 0 nb fb)) (ho : h out = some (Ai false 0 no fo)) (hna : n ≤ na) (hnb : n ≤ nb) (hno : n ≤ no) (hn : na < 2 ^ 31 ∧ nb < 2 ^ 31 ∧ no < 2 ^ 31) :
    MT g MX10_plus ({ frames := 1, cells := 0, slots := 0, locals := 20 } : Room) [.ref a, .ref b, .ref out, .int (nI n)] h (RI fun r h' => ∃ (f : Nat → Int32) (w : Nat), r = nI w ∧ w ≤ 1 ∧ (∀ j, n ≤ j → f j = fo j) ∧ V n f + w * 2 ^ (32 * n) = V n fa + V n fb ∧ h' = hset h out (Ai false 0 no f)) := by
  refine MT.of (by decide) (Nat.le_of_ble_eq_true rfl) ?_
  have loop := loop_up (P := fun k => ∀ (f : Nat → Int32) (w : Nat), w ≤ 1 → (∀ j, k ≤ j → f j = fo j) → V k f + w * 2 ^ (32 * k) = V k fa + V k fb → XX g MX10_plus ({ frames := 1, cells := 0, slots := 0, locals := 20 } : Room) (RI fun r h' => ∃ (f : Nat → Int32) (w : Nat), r = nI w ∧ w ≤ 1 ∧ (∀ j, n ≤ j → f j = fo j) ∧ V n f + w * 2 ^ (32 * n) = V n fa + V n fb ∧ h' = hset h out (Ai false 0 no f)) 0 0 6 [(6, .int (nI k)), (4, .long (lN w)), (0, .ref a), (1, .ref b), (2, .ref out), (3, .int (nI n))] [] (hset h out (Ai false 0 no f))) n
    (by
      intro f w hw hf hv
      refine X_iload (pc := 6) 0 dX10_plus_6 rfl ?_
      refine X_iload_n (pc := 8) 5 dX10_plus_8 rfl rfl ?_
      refine X_cge (pc := 9) 52 dX10_plus_9 (by decide) (by omega) (Nat.le_refl n) (fun _ => ?_) (fun c => absurd c (Nat.lt_irrefl _))
      refine X_lload (pc := 52) 1 dX10_plus_52 rfl ?_
      refine X_l2i (pc := 54) dX10_plus_54 ?_
      rw [lN_i]
      refine X_ireturn (pc := 55) dX10_plus_55 rfl (Nat.le_of_ble_eq_true rfl) (Nat.le_of_ble_eq_true rfl) ?_
      exact ⟨_, rfl, f, w, rfl, hw, hf, hv, rfl⟩)
    (fun k hk ih f w hw hf hv => by
      have ck : (nI k).toNatClampNeg = k := nI_clamp (by omega)
      have b1 : vp_in (nI k) na := vp_in_nI (by omega) (by omega)
      have b2 : vp_in (nI k) nb := vp_in_nI (by omega) (by omega)
      have b3 : vp_in (nI k) no := vp_in_nI (by omega) (by omega)
      obtain ⟨r1, f1, g1, e1⟩ := rdI k ha ho (hf k (Nat.le_refl k))
      obtain ⟨r2, f2, g2, e2⟩ := rdI k hb ho (hf k (Nat.le_refl k))
      refine X_iload (pc := 6) 0 dX10_plus_6 rfl ?_
      refine X_iload_n (pc := 8) 5 dX10_plus_8 rfl rfl ?_
      refine X_cge (pc := 9) 52 dX10_plus_9 (by decide) (by omega) (by omega) (fun c => absurd c (by omega)) (fun _ => ?_)
      refine X_lload (pc := 12) 1 dX10_plus_12 rfl ?_
      refine X_aload_n (pc := 14) 2 dX10_plus_14 rfl rfl ?_
      refine X_iload (pc := 15) 0 dX10_plus_15 rfl ?_
      refine X_iaload (pc := 17) dX10_plus_17 g1 b1 ?_
      rw [ck, e1]
      refine X_isl (pc := 18) _ dX10_plus_18 cs_X10_9 rfl (mu_ok g _ _) nX10_u (Nat.le_of_ble_eq_true rfl) (Nat.le_of_ble_eq_true rfl) (Nat.le_of_ble_eq_true rfl) (Nat.le_of_ble_eq_true rfl) (fun r1 h1 q1 => ?_)
      obtain ⟨rfl, rfl⟩ := q1
      refine X_aload_n (pc := 21) 3 dX10_plus_21 rfl rfl ?_
      refine X_iload (pc := 22) 0 dX10_plus_22 rfl ?_
      refine X_iaload (pc := 24) dX10_plus_24 g2 b2 ?_
      rw [ck, e2]
      refine X_isl (pc := 25) _ dX10_plus_25 cs_X10_9 rfl (mu_ok g _ _) nX10_u (Nat.le_of_ble_eq_true rfl) (Nat.le_of_ble_eq_true rfl) (Nat.le_of_ble_eq_true rfl) (Nat.le_of_ble_eq_true rfl) (fun r2 h2 q2 => ?_)
      obtain ⟨rfl, rfl⟩ := q2
      refine X_ladd (pc := 28) dX10_plus_28 ?_
      refine X_ladd (pc := 29) dX10_plus_29 ?_
      rw [lN_add, lN_add]
      have l1 := u32_lt (fa k)
      have l2 := u32_lt (fb k)
      refine X_lstore (pc := 30) (L' := [(4, .long _), (6, .int _), (0, .ref _), (1, .ref _), (2, .ref _), (3, .int _)]) dX10_plus_30 (Nat.le_of_ble_eq_true rfl) rfl ?_
      refine X_aload_n (pc := 32) 4 dX10_plus_32 rfl rfl ?_
      refine X_iload (pc := 33) 1 dX10_plus_33 rfl ?_
      refine X_lload (pc := 35) 0 dX10_plus_35 rfl ?_
      refine X_l2i (pc := 37) dX10_plus_37 ?_
      rw [lN_i]
      refine X_iastore (pc := 38) dX10_plus_38 (hset_self _ _ _) b3 ?_
      refine XX.eqh (hset_hset _ _ _ _) ?_
      rw [ck]
      refine X_lload (pc := 39) 0 dX10_plus_39 rfl ?_
      refine X_bipush (pc := 41) (x := 32) dX10_plus_41 (by decide) ?_
      refine X_lushr (pc := 43) dX10_plus_43 ?_
      rw [lsr32 (by omega)]
      refine X_lstore (pc := 44) (L' := [(4, .long _), (6, .int _), (0, .ref _), (1, .ref _), (2, .ref _), (3, .int _)]) dX10_plus_44 (Nat.le_of_ble_eq_true rfl) rfl ?_
      refine X_iinc (pc := 46) (L' := [(6, .int (_ + 1)), (4, .long _), (0, .ref _), (1, .ref _), (2, .ref _), (3, .int _)]) 1 dX10_plus_46 rfl rfl (Nat.le_of_ble_eq_true rfl) rfl ?_
      refine X_goto (pc := 49) 6 dX10_plus_49 (by decide) ?_
      rw [nI_1]
      refine XX.pick (L' := [(6, .int _), (4, .long _), (0, .ref _), (1, .ref _), (2, .ref _), (3, .int _)]) [0, 1, 2, 3, 4, 5] rfl ?_
      refine ih _ _ (by omega) (fun j hj => ?_) ?_
      · rw [pk_un (by omega)]
        exact hf j (by omega)
      · rw [V_upd]
        refine V_addN hv ?_
        rw [u32_nI]
        omega)
  refine X_lconst (pc := 0) (x := 0) dX10_plus_0 (by decide) ?_
  refine X_lstore (pc := 1) (L' := [(4, .long _), (0, .ref _), (1, .ref _), (2, .ref _), (3, .int _)]) dX10_plus_1 (Nat.le_of_ble_eq_true rfl) rfl ?_
  refine X_iconst (pc := 3) (x := 0) dX10_plus_3 (by decide) ?_
  refine X_istore (pc := 4) (L' := [(6, .int _), (4, .long _), (0, .ref _), (1, .ref _), (2, .ref _), (3, .int _)]) dX10_plus_4 (Nat.le_of_ble_eq_true rfl) rfl ?_
  refine XX.pick (L' := [(6, .int _), (4, .long _), (0, .ref _), (1, .ref _), (2, .ref _), (3, .int _)]) [0, 1, 2, 3, 4, 5] rfl ?_
  refine XX.eqh (hset_same ho).symm ?_
  exact loop 0 (Nat.zero_le n) fo 0 (Nat.zero_le 1) (fun _ _ => rfl) (by show 0 + 0 * _ = 0 + 0; omega)
set_option maxHeartbeats 4000000 in
theorem mminus_ok (g : GX) {h : AH} {a b out n na nb no : Nat} {ra rb : Bool} {fa fb fo : Nat → Int32} (ha : h a = some (Ai ra 0 na fa)) (hb : h b = some (Ai rb 0 nb fb)) (ho : h out = some (Ai false 0 no fo)) (hna : n ≤ na) (hnb : n ≤ nb) (hno : n ≤ no) (hn : na < 2 ^ 31 ∧ nb < 2 ^ 31 ∧ no < 2 ^ 31) :
    MT g MX10_minus ({ frames := 1, cells := 0, slots := 0, locals := 20 } : Room) [.ref a, .ref b, .ref out, .int (nI n)] h (RI fun r h' => ∃ (f : Nat → Int32), (r = 0 ∨ r = -1) ∧ (∀ j, n ≤ j → f j = fo j) ∧ (V n f : Int) + V n fb = V n fa - r.toInt * 2 ^ (32 * n) ∧ h' = hset h out (Ai false 0 no f)) := by
  refine MT.of (by decide) (Nat.le_of_ble_eq_true rfl) ?_
  have loop := loop_up (P := fun k => ∀ (f : Nat → Int32) (w : Int64), (w = 0 ∨ w = -1) → (∀ j, k ≤ j → f j = fo j) → (V k f : Int) + V k fb = V k fa - w.toInt * 2 ^ (32 * k) → XX g MX10_minus ({ frames := 1, cells := 0, slots := 0, locals := 20 } : Room) (RI fun r h' => ∃ (f : Nat → Int32), (r = 0 ∨ r = -1) ∧ (∀ j, n ≤ j → f j = fo j) ∧ (V n f : Int) + V n fb = V n fa - r.toInt * 2 ^ (32 * n) ∧ h' = hset h out (Ai false 0 no f)) 0 0 6 [(6, .int (nI k)), (4, .long w), (0, .ref a), (1, .ref b), (2, .ref out), (3, .int (nI n))] [] (hset h out (Ai false 0 no f))) n
    (by
      intro f w hw hf hv
      refine X_iload (pc := 6) 0 dX10_minus_6 rfl ?_
      refine X_iload_n (pc := 8) 5 dX10_minus_8 rfl rfl ?_
      refine X_cge (pc := 9) 52 dX10_minus_9 (by decide) (by omega) (Nat.le_refl n) (fun _ => ?_) (fun c => absurd c (Nat.lt_irrefl _))
      refine X_lload (pc := 52) 1 dX10_minus_52 rfl ?_
      refine X_l2i (pc := 54) dX10_minus_54 ?_
      refine X_ireturn (pc := 55) dX10_minus_55 rfl (Nat.le_of_ble_eq_true rfl) (Nat.le_of_ble_eq_true rfl) ?_
      rcases hw with rfl | rfl
      · exact ⟨_, rfl, f, Or.inl rfl, hf, hv, rfl⟩
      · exact ⟨_, rfl, f, Or.inr rfl, hf, hv, rfl⟩)
    (fun k hk ih f w hw hf hv => by
      have ck : (nI k).toNatClampNeg = k := nI_clamp (by omega)
      have b1 : vp_in (nI k) na := vp_in_nI (by omega) (by omega)
      have b2 : vp_in (nI k) nb := vp_in_nI (by omega) (by omega)
      have b3 : vp_in (nI k) no := vp_in_nI (by omega) (by omega)
      obtain ⟨r1, f1, g1, e1⟩ := rdI k ha ho (hf k (Nat.le_refl k))
      obtain ⟨r2, f2, g2, e2⟩ := rdI k hb ho (hf k (Nat.le_refl k))
      refine X_iload (pc := 6) 0 dX10_minus_6 rfl ?_
      refine X_iload_n (pc := 8) 5 dX10_minus_8 rfl rfl ?_
      refine X_cge (pc := 9) 52 dX10_minus_9 (by decide) (by omega) (by omega) (fun c => absurd c (by omega)) (fun _ => ?_)
      refine X_lload (pc := 12) 1 dX10_minus_12 rfl ?_
      refine X_aload_n (pc := 14) 2 dX10_minus_14 rfl rfl ?_
      refine X_iload (pc := 15) 0 dX10_minus_15 rfl ?_
      refine X_iaload (pc := 17) dX10_minus_17 g1 b1 ?_
      rw [ck, e1]
      refine X_isl (pc := 18) _ dX10_minus_18 cs_X10_9 rfl (mu_ok g _ _) nX10_u (Nat.le_of_ble_eq_true rfl) (Nat.le_of_ble_eq_true rfl) (Nat.le_of_ble_eq_true rfl) (Nat.le_of_ble_eq_true rfl) (fun r1 h1 q1 => ?_)
      obtain ⟨rfl, rfl⟩ := q1
      refine X_aload_n (pc := 21) 3 dX10_minus_21 rfl rfl ?_
      refine X_iload (pc := 22) 0 dX10_minus_22 rfl ?_
      refine X_iaload (pc := 24) dX10_minus_24 g2 b2 ?_
      rw [ck, e2]
      refine X_isl (pc := 25) _ dX10_minus_25 cs_X10_9 rfl (mu_ok g _ _) nX10_u (Nat.le_of_ble_eq_true rfl) (Nat.le_of_ble_eq_true rfl) (Nat.le_of_ble_eq_true rfl) (Nat.le_of_ble_eq_true rfl) (fun r2 h2 q2 => ?_)
      obtain ⟨rfl, rfl⟩ := q2
      refine X_lsub (pc := 28) dX10_minus_28 ?_
      refine X_ladd (pc := 29) dX10_minus_29 ?_
      rw [← low_lN, ← low_lN, Int64.add_comm w]
      refine X_topl (fun d ed => ?_)
      refine X_lstore (pc := 30) (L' := [(4, .long _), (6, .int _), (0, .ref _), (1, .ref _), (2, .ref _), (3, .int _)]) dX10_minus_30 (Nat.le_of_ble_eq_true rfl) rfl ?_
      refine X_aload_n (pc := 32) 4 dX10_minus_32 rfl rfl ?_
      refine X_iload (pc := 33) 1 dX10_minus_33 rfl ?_
      refine X_lload (pc := 35) 0 dX10_minus_35 rfl ?_
      refine X_l2i (pc := 37) dX10_minus_37 ?_
      refine X_iastore (pc := 38) dX10_minus_38 (hset_self _ _ _) b3 ?_
      refine XX.eqh (hset_hset _ _ _ _) ?_
      rw [ck]
      refine X_lload (pc := 39) 0 dX10_minus_39 rfl ?_
      refine X_bipush (pc := 41) (x := 32) dX10_minus_41 (by decide) ?_
      refine X_lshr (pc := 43) dX10_minus_43 ?_
      refine X_topl (fun w' ew => ?_)
      refine X_lstore (pc := 44) (L' := [(4, .long _), (6, .int _), (0, .ref _), (1, .ref _), (2, .ref _), (3, .int _)]) dX10_minus_44 (Nat.le_of_ble_eq_true rfl) rfl ?_
      refine X_iinc (pc := 46) (L' := [(6, .int (_ + 1)), (4, .long _), (0, .ref _), (1, .ref _), (2, .ref _), (3, .int _)]) 1 dX10_minus_46 rfl rfl (Nat.le_of_ble_eq_true rfl) rfl ?_
      refine X_goto (pc := 49) 6 dX10_minus_49 (by decide) ?_
      rw [nI_1]
      refine XX.pick (L' := [(6, .int _), (4, .long _), (0, .ref _), (1, .ref _), (2, .ref _), (3, .int _)]) [0, 1, 2, 3, 4, 5] rfl ?_
      obtain ⟨h1, h2⟩ := minus_step (fa k) (fb k) hw ed ew
      refine ih _ w' h1 (fun j hj => ?_) ?_
      · rw [pk_un (by omega)]
        exact hf j (by omega)
      · rw [V_upd]
        exact V_sub_step hv h2)
  refine X_lconst (pc := 0) (x := 0) dX10_minus_0 (by decide) ?_
  refine X_lstore (pc := 1) (L' := [(4, .long _), (0, .ref _), (1, .ref _), (2, .ref _), (3, .int _)]) dX10_minus_1 (Nat.le_of_ble_eq_true rfl) rfl ?_
  refine X_iconst (pc := 3) (x := 0) dX10_minus_3 (by decide) ?_
  refine X_istore (pc := 4) (L' := [(6, .int _), (4, .long _), (0, .ref _), (1, .ref _), (2, .ref _), (3, .int _)]) dX10_minus_4 (Nat.le_of_ble_eq_true rfl) rfl ?_
  refine XX.pick (L' := [(6, .int _), (4, .long _), (0, .ref _), (1, .ref _), (2, .ref _), (3, .int _)]) [0, 1, 2, 3, 4, 5] rfl ?_
  refine XX.eqh (hset_same ho).symm ?_
  exact loop 0 (Nat.zero_le n) fo 0 (Or.inl rfl) (fun _ _ => rfl) (by show (0 : Int) + 0 = 0 - 0 * _; omega)
