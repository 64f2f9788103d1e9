set_option maxRecDepth 100000
/-! VeilMint's curve: the right side, negation, the first x, the map -/
theorem bMx_lt : bMx < pP := by decide +kernel
theorem bMx_ok : bMx = bP * 2 ^ (32 * 12) % pP := by decide +kernel
theorem bMx_v : vm bMx = BP := by rw [bMx_ok, vm_in]
theorem zMx_lt : zMx < pP := by decide +kernel
theorem zMx_ok : zMx = (pP - 12) * 2 ^ (32 * 12) % pP := by decide +kernel
theorem zMx_v : vm zMx = -12 := by
  rw [zMx_ok, vm_in, fp_neg (by decide +kernel)]
  rfl
theorem oneP_lt : oneP < pP := by decide +kernel
theorem fp_1' : fp 1 = 1 := by exact fp_1
theorem oneP_v : vm oneP = 1 := by
  have e : oneP = 1 * 2 ^ (32 * 12) % pP := by rw [Nat.one_mul]; exact oneP_ok
  rw [e, vm_in, fp_1']
theorem zP_12 : zP = -12 := by decide +kernel
section XM9
variable {kd : Nat → KD} {A : Nat → Nat} {X : AH} {R : Nat → Nat} {S : Nat → List Int32} {O : Nat → AC} {F : Nat → Int32} {h : AH}
/-- forget how a register got its value -/
theorem XW.ab {k v : Nat} (w : XW kd A X (up R k v) S O F h) : ∃ R', R' k = v ∧ (∀ j, j ≠ k → R' j = R j) ∧ XW kd A X R' S O F h := ⟨_, up_same _ _ _, fun j hj => up_ne hj, w⟩
theorem XW.lt (w : XW kd A X R S O F h) {k : Nat} (hk : kd k = (1, 0, 12)) : R k < pP := (w.n k hk).choose_spec.2.2
theorem XB.b {R : Nat → Nat} (b : XB R) : vx R 12 BP := by unfold vx; rw [b.1]; exact ⟨bMx_v, bMx_lt⟩
theorem XB.z {R : Nat → Nat} (b : XB R) : vx R 14 (-12) := by unfold vx; rw [b.2.2.1]; exact ⟨zMx_v, zMx_lt⟩
noncomputable def sqR (k o : Nat) (R : Nat → Nat) : Nat → Nat := rAdd o 22 12 (rMx 22 22 k (rSub 22 22 15 (rMx 22 k k R)))
theorem sqR_o {R : Nat → Nat} {j k o : Nat} (h22 : j ≠ 22) (ho : j ≠ o) : sqR k o R j = R j := by
  unfold sqR
  exact (up_ne ho).trans ((up_ne h22).trans ((up_ne h22).trans (up_ne h22)))
theorem sqR_v {R : Nat → Nat} {k o : Nat} {x12 x15 xk : Fp} (h1 : k ≠ 22) (t0_12 : vx R 12 x12) (t0_15 : vx R 15 x15) (t0_k : vx R k xk) : vx (sqR k o R) o ((((xk * xk) - x15) * xk) + x12) := by
  have t1_12 := vx_Mo (k := 22) (a := k) (b := k) t0_12 (by omega)
  have t1_15 := vx_Mo (k := 22) (a := k) (b := k) t0_15 (by omega)
  have t1_k := vx_Mo (k := 22) (a := k) (b := k) t0_k (by omega)
  have t1_22 := vx_M (k := 22) t0_k t0_k
  have t2_12 := vx_So (k := 22) (a := 22) (b := 15) t1_12 (by omega)
  have t2_k := vx_So (k := 22) (a := 22) (b := 15) t1_k (by omega)
  have t2_22 := vx_S (k := 22) t1_22 t1_15
  have t3_12 := vx_Mo (k := 22) (a := 22) (b := k) t2_12 (by omega)
  have t3_22 := vx_M (k := 22) t2_22 t2_k
  have t4_o := vx_A (k := o) t3_22 t3_12
  exact t4_o
theorem square_ok (g : GX) (w : XW kd A X R S O F h) (k o : Nat) (hk_k : kd k = (1, 0, 12)) (hk_o : kd o = (1, 0, 12)) (h1 : k ≠ 22) (xb : XB R) :
    MT g MX5_square ({ frames := 4, cells := 0, slots := 0, locals := 95 } : Room) [.ref (A 11), .ref (A k), .ref (A o)] h (RV fun h' => ∃ R', (∀ j, j ≠ 22 → j ≠ o → R' j = R j) ∧ vm (R' o) = gx (vm (R k)) ∧ XW kd A X R' S O F h') := by
  refine MT.of (by decide) (Nat.le_of_ble_eq_true rfl) ?_
  refine X_aload_n (pc := 0) 0 dX5_square_0 rfl rfl ?_
  refine X_getfield (pc := 1) dX5_square_1 fg_X5_22_3 (XW.cv w) rfl ?_
  refine X_aload_n (pc := 4) 1 dX5_square_4 rfl rfl ?_
  refine X_aload_n (pc := 5) 1 dX5_square_5 rfl rfl ?_
  refine X_aload_n (pc := 6) 0 dX5_square_6 rfl rfl ?_
  refine X_getfield (pc := 7) dX5_square_7 fg_X5_62_3 (XW.cv w) rfl ?_
  refine X_ivv (pc := 10) _ dX5_square_10 cv_X5_140_4 (MoK.ob (XW.mp w) w) rfl (xmPr g w 22 k k (St.p (XW.k w 22 (by decide))) (Or.inl hk_k) (Or.inl hk_k)) nX6_mul (Nat.le_of_ble_eq_true rfl) (Nat.le_of_ble_eq_true rfl) (Nat.le_of_ble_eq_true rfl) (Nat.le_of_ble_eq_true rfl) (fun h_1 w_1 => ?_)
  refine X_aload_n (pc := 13) 0 dX5_square_13 rfl rfl ?_
  refine X_getfield (pc := 14) dX5_square_14 fg_X5_22_3 (XW.cv w_1) rfl ?_
  refine X_aload_n (pc := 17) 0 dX5_square_17 rfl rfl ?_
  refine X_getfield (pc := 18) dX5_square_18 fg_X5_62_3 (XW.cv w_1) rfl ?_
  refine X_aload_n (pc := 21) 0 dX5_square_21 rfl rfl ?_
  refine X_getfield (pc := 22) dX5_square_22 fg_X5_41_3 (XW.cv w_1) rfl ?_
  refine X_aload_n (pc := 25) 0 dX5_square_25 rfl rfl ?_
  refine X_getfield (pc := 26) dX5_square_26 fg_X5_62_3 (XW.cv w_1) rfl ?_
  refine X_ivv (pc := 29) _ dX5_square_29 cv_X5_133_4 (MoK.ob (XW.mp w_1) w_1) rfl (xsPr g w_1 22 22 15 (St.p (XW.k w_1 22 (by decide))) (Or.inl (XW.k w_1 22 (by decide))) (Or.inl (XW.k w_1 15 (by decide)))) nX6_sub (Nat.le_of_ble_eq_true rfl) (Nat.le_of_ble_eq_true rfl) (Nat.le_of_ble_eq_true rfl) (Nat.le_of_ble_eq_true rfl) (fun h_2 w_2 => ?_)
  refine X_aload_n (pc := 32) 0 dX5_square_32 rfl rfl ?_
  refine X_getfield (pc := 33) dX5_square_33 fg_X5_22_3 (XW.cv w_2) rfl ?_
  refine X_aload_n (pc := 36) 0 dX5_square_36 rfl rfl ?_
  refine X_getfield (pc := 37) dX5_square_37 fg_X5_62_3 (XW.cv w_2) rfl ?_
  refine X_aload_n (pc := 40) 1 dX5_square_40 rfl rfl ?_
  refine X_aload_n (pc := 41) 0 dX5_square_41 rfl rfl ?_
  refine X_getfield (pc := 42) dX5_square_42 fg_X5_62_3 (XW.cv w_2) rfl ?_
  refine X_ivv (pc := 45) _ dX5_square_45 cv_X5_140_4 (MoK.ob (XW.mp w_2) w_2) rfl (xmPr g w_2 22 22 k (St.p (XW.k w_2 22 (by decide))) (Or.inl (XW.k w_2 22 (by decide))) (Or.inl hk_k)) nX6_mul (Nat.le_of_ble_eq_true rfl) (Nat.le_of_ble_eq_true rfl) (Nat.le_of_ble_eq_true rfl) (Nat.le_of_ble_eq_true rfl) (fun h_3 w_3 => ?_)
  refine X_aload_n (pc := 48) 0 dX5_square_48 rfl rfl ?_
  refine X_getfield (pc := 49) dX5_square_49 fg_X5_22_3 (XW.cv w_3) rfl ?_
  refine X_aload_n (pc := 52) 0 dX5_square_52 rfl rfl ?_
  refine X_getfield (pc := 53) dX5_square_53 fg_X5_62_3 (XW.cv w_3) rfl ?_
  refine X_aload_n (pc := 56) 0 dX5_square_56 rfl rfl ?_
  refine X_getfield (pc := 57) dX5_square_57 fg_X5_31_3 (XW.cv w_3) rfl ?_
  refine X_aload_n (pc := 60) 2 dX5_square_60 rfl rfl ?_
  refine X_ivv (pc := 61) _ dX5_square_61 cv_X5_129_4 (MoK.ob (XW.mp w_3) w_3) rfl (xaPr g w_3 o 22 12 (St.p hk_o) (Or.inl (XW.k w_3 22 (by decide))) (Or.inl (XW.k w_3 12 (by decide)))) nX6_add (Nat.le_of_ble_eq_true rfl) (Nat.le_of_ble_eq_true rfl) (Nat.le_of_ble_eq_true rfl) (Nat.le_of_ble_eq_true rfl) (fun h_4 w_4 => ?_)
  refine X_return (pc := 64) dX5_square_64 rfl (Nat.le_of_ble_eq_true rfl) (Nat.le_of_ble_eq_true rfl) ?_
  refine ⟨rfl, sqR k o R, fun j j1 j2 => sqR_o j1 j2, ?_, w_4⟩
  rw [(sqR_v (R := R) (o := o) h1 xb.b xb.three ⟨rfl, w.lt hk_k⟩).1]
  exact curve_r _ _
theorem ng0 {F : Type} [Lean.Grind.CommRing F] (y : F) : 0 - y = -y := by grind
theorem vm_z : vm 0 = 0 := (vm_0 pP_pos).mpr rfl
theorem negate_ok (g : GX) (w : XW kd A X R S O F h) (k : Nat) (hk : kd k = (1, 0, 12)) (h18 : k ≠ 18) :
    MT g MX5_negate ({ frames := 2, cells := 0, slots := 0, locals := 51 } : Room) [.ref (A 11), .ref (A k)] h (RV fun h' => ∃ R', (∀ j, j ≠ 18 → j ≠ k → R' j = R j) ∧ vm (R' k) = - vm (R k) ∧ XW kd A X R' S O F h') := by
  refine MT.of (by decide) (Nat.le_of_ble_eq_true rfl) ?_
  obtain ⟨ft, ht, -, -⟩ := w.n 18 (w.k 18 (by decide))
  have hne : A 11 ≠ A 18 := w.ne (by rw [w.k 11 (by decide)]; decide) (by rw [w.k 18 (by decide)]; decide) (by decide)
  generalize hQ : (RV fun h' => ∃ R', (∀ j, j ≠ 18 → j ≠ k → R' j = R j) ∧ vm (R' k) = - vm (R k) ∧ XW kd A X R' S O F h') = Q
  have zeros : ∀ m i, i + m = 12 → ∀ (f : Nat → Int32), (∀ j, j < i → f j = 0) → XX g MX5_negate ({ frames := 2, cells := 0, slots := 0, locals := 51 } : Room) Q 0 0 2 [(2, .int (nI i)), (0, .ref (A 11)), (1, .ref (A k))] [] (hset h (A 18) (Ai false 0 12 f)) := by
    intro m
    induction m with
    | zero =>
      intro i hi f hz
      have e : i = 12 := by omega
      subst e
      have w1 := w.setN 18 (w.k 18 (by decide)) (V_zeros hz) pP_pos
      generalize hset h (A 18) (Ai false 0 12 f) = h1 at w1
      refine X_iload_n (pc := 2) 0 dX5_negate_2 rfl rfl ?_
      refine X_bipush (pc := 3) (x := 12) dX5_negate_3 (by decide) ?_
      refine X_cge (b := 12) (pc := 5) 21 dX5_negate_5 (by decide) (by omega) (by omega) (fun _ => ?_) (fun c => absurd c (by omega))
      refine X_aload_n (pc := 21) 1 dX5_negate_21 rfl rfl ?_
      refine X_getfield (pc := 22) dX5_negate_22 fg_X5_22_3 (XW.cv w1) (by first | rfl | assumption) ?_
      refine X_aload_n (pc := 25) 1 dX5_negate_25 rfl rfl ?_
      refine X_getfield (pc := 26) dX5_negate_26 fg_X5_50_3 (XW.cv w1) (by first | rfl | assumption) ?_
      refine X_aload_n (pc := 29) 2 dX5_negate_29 rfl rfl ?_
      refine X_aload_n (pc := 30) 2 dX5_negate_30 rfl rfl ?_
      refine X_ivv (pc := 31) _ dX5_negate_31 cv_X5_133_4 (MoK.ob (XW.mp w1) w1) rfl (xsPr g w1 k 18 k (St.p hk) (Or.inl (w1.k 18 (by decide))) (Or.inl hk)) nX6_sub (Nat.le_of_ble_eq_true rfl) (Nat.le_of_ble_eq_true rfl) (Nat.le_of_ble_eq_true rfl) (Nat.le_of_ble_eq_true rfl) (fun h2 w2 => ?_)
      subst hQ
      refine X_return (pc := 34) dX5_negate_34 rfl (Nat.le_of_ble_eq_true rfl) (Nat.le_of_ble_eq_true rfl) ?_
      refine ⟨rfl, _, fun j j1 j2 => (up_ne j2).trans (up_ne j1), ?_, w2⟩
      rw [up_same, up_same, up_ne h18, vm_sub (w.lt hk), vm_z]
      exact ng0 _
    | succ m ih =>
      intro i hi f hz
      have ci : (nI i).toNatClampNeg = i := nI_clamp (by omega)
      have b1 : vp_in (nI i) 12 := vp_in_nI (by omega) (by omega)
      have c1 := hset_self h (A 18) (Ai false 0 12 f)
      have c2 : hset h (A 18) (Ai false 0 12 f) (A 11) = some (Ob 3 (cvFl A)) := by rw [hset_ne hne]; exact w.cv
      refine X_iload_n (pc := 2) 0 dX5_negate_2 rfl rfl ?_
      refine X_bipush (pc := 3) (x := 12) dX5_negate_3 (by decide) ?_
      refine X_cge (b := 12) (pc := 5) 21 dX5_negate_5 (by decide) (by omega) (by omega) (fun c => absurd c (by omega)) (fun _ => ?_)
      refine X_aload_n (pc := 8) 1 dX5_negate_8 rfl rfl ?_
      refine X_getfield (pc := 9) dX5_negate_9 fg_X5_50_3 c2 (by first | rfl | assumption) ?_
      refine X_iload_n (pc := 12) 0 dX5_negate_12 rfl rfl ?_
      refine X_iconst (pc := 13) (x := 0) dX5_negate_13 (by decide) ?_
      refine X_iastore (pc := 14) dX5_negate_14 c1 b1 ?_
      refine X_iinc (pc := 15) (L' := [(2, .int (_ + 1)), (0, .ref _), (1, .ref _)]) 0 dX5_negate_15 rfl rfl (Nat.le_of_ble_eq_true rfl) rfl ?_
      refine X_goto (pc := 18) 2 dX5_negate_18 (by decide) ?_
      rw [ci, hset_hset, show nI i + 1 = nI (i + 1) from nI_add i 1]
      refine ih (i + 1) (by omega) _ (fun j hj => ?_)
      by_cases e : j = i
      · exact if_pos e
      · exact (if_neg e).trans (hz j (by omega))
  refine X_iconst (pc := 0) (x := 0) dX5_negate_0 (by decide) ?_
  refine X_istore_n (pc := 1) (L' := [(2, .int _), (0, .ref _), (1, .ref _)]) dX5_negate_1 rfl (Nat.le_of_ble_eq_true rfl) rfl ?_
  have := zeros 12 0 (by omega) ft (fun j hj => absurd hj (by omega))
  rw [hset_same ht] at this
  exact this
theorem negateInto_ok (g : GX) (w : XW kd A X R S O F h) :
    MT g MX5_negateInto ({ frames := 2, cells := 0, slots := 0, locals := 51 } : Room) [.ref (A 11), .ref (A 20), .ref (A 20)] h (RV fun h' => ∃ R', (∀ j, j ≠ 20 → j ≠ 21 → R' j = R j) ∧ vm (R' 20) = - vm (R 20) ∧ XW kd A X R' S O F h') := by
  refine MT.of (by decide) (Nat.le_of_ble_eq_true rfl) ?_
  obtain ⟨ft, ht, -, -⟩ := w.n 21 (w.k 21 (by decide))
  have hne : A 11 ≠ A 21 := w.ne (by rw [w.k 11 (by decide)]; decide) (by rw [w.k 21 (by decide)]; decide) (by decide)
  generalize hQ : (RV fun h' => ∃ R', (∀ j, j ≠ 20 → j ≠ 21 → R' j = R j) ∧ vm (R' 20) = - vm (R 20) ∧ XW kd A X R' S O F h') = Q
  have zeros : ∀ m i, i + m = 12 → ∀ (f : Nat → Int32), (∀ j, j < i → f j = 0) → XX g MX5_negateInto ({ frames := 2, cells := 0, slots := 0, locals := 51 } : Room) Q 0 0 2 [(3, .int (nI i)), (0, .ref (A 11)), (1, .ref (A 20)), (2, .ref (A 20))] [] (hset h (A 21) (Ai false 0 12 f)) := by
    intro m
    induction m with
    | zero =>
      intro i hi f hz
      have e : i = 12 := by omega
      subst e
      have w1 := w.setN 21 (w.k 21 (by decide)) (V_zeros hz) pP_pos
      generalize hset h (A 21) (Ai false 0 12 f) = h1 at w1
      refine X_iload_n (pc := 2) 0 dX5_negateInto_2 rfl rfl ?_
      refine X_bipush (pc := 3) (x := 12) dX5_negateInto_3 (by decide) ?_
      refine X_cge (b := 12) (pc := 5) 21 dX5_negateInto_5 (by decide) (by omega) (by omega) (fun _ => ?_) (fun c => absurd c (by omega))
      refine X_aload_n (pc := 21) 1 dX5_negateInto_21 rfl rfl ?_
      refine X_getfield (pc := 22) dX5_negateInto_22 fg_X5_22_3 (XW.cv w1) (by first | rfl | assumption) ?_
      refine X_aload_n (pc := 25) 1 dX5_negateInto_25 rfl rfl ?_
      refine X_getfield (pc := 26) dX5_negateInto_26 fg_X5_59_3 (XW.cv w1) (by first | rfl | assumption) ?_
      refine X_aload_n (pc := 29) 2 dX5_negateInto_29 rfl rfl ?_
      refine X_aload_n (pc := 30) 3 dX5_negateInto_30 rfl rfl ?_
      refine X_ivv (pc := 31) _ dX5_negateInto_31 cv_X5_133_4 (MoK.ob (XW.mp w1) w1) rfl (xsPr g w1 20 21 20 (St.p (w1.k 20 (by decide))) (Or.inl (w1.k 21 (by decide))) (Or.inl (w1.k 20 (by decide)))) nX6_sub (Nat.le_of_ble_eq_true rfl) (Nat.le_of_ble_eq_true rfl) (Nat.le_of_ble_eq_true rfl) (Nat.le_of_ble_eq_true rfl) (fun h2 w2 => ?_)
      subst hQ
      refine X_return (pc := 34) dX5_negateInto_34 rfl (Nat.le_of_ble_eq_true rfl) (Nat.le_of_ble_eq_true rfl) ?_
      refine ⟨rfl, _, fun j j1 j2 => (up_ne j1).trans (up_ne j2), ?_, w2⟩
      rw [up_same, up_same, up_ne (by decide), vm_sub (w.lt (w.k 20 (by decide))), vm_z]
      exact ng0 _
    | succ m ih =>
      intro i hi f hz
      have ci : (nI i).toNatClampNeg = i := nI_clamp (by omega)
      have b1 : vp_in (nI i) 12 := vp_in_nI (by omega) (by omega)
      have c1 := hset_self h (A 21) (Ai false 0 12 f)
      have c2 : hset h (A 21) (Ai false 0 12 f) (A 11) = some (Ob 3 (cvFl A)) := by rw [hset_ne hne]; exact w.cv
      refine X_iload_n (pc := 2) 0 dX5_negateInto_2 rfl rfl ?_
      refine X_bipush (pc := 3) (x := 12) dX5_negateInto_3 (by decide) ?_
      refine X_cge (b := 12) (pc := 5) 21 dX5_negateInto_5 (by decide) (by omega) (by omega) (fun c => absurd c (by omega)) (fun _ => ?_)
      refine X_aload_n (pc := 8) 1 dX5_negateInto_8 rfl rfl ?_
      refine X_getfield (pc := 9) dX5_negateInto_9 fg_X5_59_3 c2 (by first | rfl | assumption) ?_
      refine X_iload_n (pc := 12) 0 dX5_negateInto_12 rfl rfl ?_
      refine X_iconst (pc := 13) (x := 0) dX5_negateInto_13 (by decide) ?_
      refine X_iastore (pc := 14) dX5_negateInto_14 c1 b1 ?_
      refine X_iinc (pc := 15) (L' := [(3, .int (_ + 1)), (0, .ref _), (1, .ref _), (2, .ref _)]) 0 dX5_negateInto_15 rfl rfl (Nat.le_of_ble_eq_true rfl) rfl ?_
      refine X_goto (pc := 18) 2 dX5_negateInto_18 (by decide) ?_
      rw [ci, hset_hset, show nI i + 1 = nI (i + 1) from nI_add i 1]
      refine ih (i + 1) (by omega) _ (fun j hj => ?_)
      by_cases e : j = i
      · exact if_pos e
      · exact (if_neg e).trans (hz j (by omega))
  refine X_iconst (pc := 0) (x := 0) dX5_negateInto_0 (by decide) ?_
  refine X_istore_n (pc := 1) (L' := [(3, .int _), (0, .ref _), (1, .ref _), (2, .ref _)]) dX5_negateInto_1 rfl (Nat.le_of_ble_eq_true rfl) rfl ?_
  have := zeros 12 0 (by omega) ft (fun j hj => absurd hj (by omega))
  rw [hset_same ht] at this
  exact this
/-- from, inverse, in: a register's inverse -/
theorem inv_vm {x : Nat} (hx : x < pP) (h0 : vm x ≠ 0) : Nat.gcd (mgm pP 12 x) pP = 1 ∧ vm (invM pP (mgm pP 12 x) * 2 ^ (32 * 12) % pP) = ivP (vm x) := by
  have e := vm_from x
  have hl := mgm_lt pP_odd 12 x
  have hz : mgm pP 12 x ≠ 0 := fun z => h0 (by rw [← e, z]; rfl)
  refine ⟨gcd_p hz hl, ?_⟩
  rw [vm_in, fp_invM hz hl, e]
theorem n36 {F : Type} [Lean.Grind.CommRing F] : -((-12 : F) * 3) = 36 := by grind
theorem fx1 {F : Type} [Lean.Grind.CommRing F] (b i : F) : b * i = i * b := by grind
theorem fx2 {F : Type} [Lean.Grind.CommRing F] (i b j : F) : (i + 1) * b * j = (i + 1) * j * b := by grind
theorem fp3_ne : (3 : Fp) ≠ 0 := by decide +kernel
set_option maxHeartbeats 4000000 in
theorem firstX_ok (g : GX) (w : XW kd A X R S O F h) (o : Nat) (ho : kd o = (1, 0, 12)) (ho60 : 60 ≤ o) (xb : XB R) :
    MT g MX5_firstX ({ frames := 5, cells := 0, slots := 0, locals := 117 } : Room) [.ref (A 11), .ref (A 18), .ref (A o)] h (RV fun h' => ∃ R', (∀ j, j ≠ 20 → j ≠ 21 → j ≠ o → R' j = R j) ∧ vm (R' o) = (if vm (R 18) = 0 then ivP 36 * BP else (ivP (vm (R 18)) + 1) * ivP 3 * BP) ∧ XW kd A X R' S O F h') := by
  refine MT.of (by decide) (Nat.le_of_ble_eq_true rfl) ?_
  have l18 := w.lt (w.k 18 (by decide))
  generalize hQ : (RV fun h' => ∃ R', (∀ j, j ≠ 20 → j ≠ 21 → j ≠ o → R' j = R j) ∧ vm (R' o) = (if vm (R 18) = 0 then ivP 36 * BP else (ivP (vm (R 18)) + 1) * ivP 3 * BP) ∧ XW kd A X R' S O F h') = Q
  refine X_aload_n (pc := 0) 1 dX5_firstX_0 rfl rfl ?_
  refine X_isi (pc := 1) _ dX5_firstX_1 cs_X5_147 rfl (xzeroW g (OpX.n w 18 (w.k 18 (by decide))) (by decide)) nX6_isZero (Nat.le_of_ble_eq_true rfl) (Nat.le_of_ble_eq_true rfl) (Nat.le_of_ble_eq_true rfl) (Nat.le_of_ble_eq_true rfl) (fun r h1 q => ?_)
  obtain ⟨er, rfl⟩ := q
  by_cases hz : R 18 = 0
  · rw [if_pos hz] at er
    subst er
    have hv0 : vm (R 18) = 0 := (vm_0 l18).mpr hz
    refine X_if_eq (pc := 4) 101 dX5_firstX_4 (by decide) (fun c_4 => ?_) (fun c_4 => ?_)
    · exact absurd c_4 (by decide)
    · refine X_aload_n (pc := 7) 0 dX5_firstX_7 rfl rfl ?_
      refine X_getfield (pc := 8) dX5_firstX_8 fg_X5_22_3 (XW.cv w) (by first | rfl | assumption) ?_
      refine X_aload_n (pc := 11) 0 dX5_firstX_11 rfl rfl ?_
      refine X_getfield (pc := 12) dX5_firstX_12 fg_X5_38_3 (XW.cv w) (by first | rfl | assumption) ?_
      refine X_aload_n (pc := 15) 0 dX5_firstX_15 rfl rfl ?_
      refine X_getfield (pc := 16) dX5_firstX_16 fg_X5_41_3 (XW.cv w) (by first | rfl | assumption) ?_
      refine X_aload_n (pc := 19) 0 dX5_firstX_19 rfl rfl ?_
      refine X_getfield (pc := 20) dX5_firstX_20 fg_X5_56_3 (XW.cv w) (by first | rfl | assumption) ?_
      refine X_ivv (pc := 23) _ dX5_firstX_23 cv_X5_140_4 (MoK.ob (XW.mp w) w) rfl (xmPr g w 20 14 15 (St.p (w.k 20 (by decide))) (Or.inl (w.k 14 (by decide))) (Or.inl (w.k 15 (by decide)))) nX6_mul (Nat.le_of_ble_eq_true rfl) (Nat.le_of_ble_eq_true rfl) (Nat.le_of_ble_eq_true rfl) (Nat.le_of_ble_eq_true rfl) (fun h2 q2 => ?_)
      have v2 := vx_M (k := 20) xb.z xb.three
      obtain ⟨R2, e2, o2, w2⟩ := XW.ab q2
      have v2' : vm (R2 20) = -12 * 3 := by rw [e2]; exact (congrArg vm (up_same _ _ _).symm).trans v2.1
      refine X_aload_n (pc := 26) 0 dX5_firstX_26 rfl rfl ?_
      refine X_aload_n (pc := 27) 0 dX5_firstX_27 rfl rfl ?_
      refine X_getfield (pc := 28) dX5_firstX_28 fg_X5_56_3 (XW.cv w2) (by first | rfl | assumption) ?_
      refine X_aload_n (pc := 31) 0 dX5_firstX_31 rfl rfl ?_
      refine X_getfield (pc := 32) dX5_firstX_32 fg_X5_56_3 (XW.cv w2) (by first | rfl | assumption) ?_
      refine X_ivv (pc := 35) _ dX5_firstX_35 cv_X5_252_3 (XW.cv w2) rfl (negateInto_ok g w2) nX5_negateInto (Nat.le_of_ble_eq_true rfl) (Nat.le_of_ble_eq_true rfl) (Nat.le_of_ble_eq_true rfl) (Nat.le_of_ble_eq_true rfl) (fun h3 q3 => ?_)
      obtain ⟨R3, o3, v3, w3⟩ := q3
      rw [v2', n36] at v3
      have l3 := w3.lt (w3.k 20 (by decide))
      obtain ⟨gc, vi⟩ := inv_vm l3 (by rw [v3]; exact fp36_ne)
      refine X_aload_n (pc := 38) 0 dX5_firstX_38 rfl rfl ?_
      refine X_getfield (pc := 39) dX5_firstX_39 fg_X5_22_3 (XW.cv w3) (by first | rfl | assumption) ?_
      refine X_aload_n (pc := 42) 0 dX5_firstX_42 rfl rfl ?_
      refine X_getfield (pc := 43) dX5_firstX_43 fg_X5_56_3 (XW.cv w3) (by first | rfl | assumption) ?_
      refine X_aload_n (pc := 46) 0 dX5_firstX_46 rfl rfl ?_
      refine X_getfield (pc := 47) dX5_firstX_47 fg_X5_56_3 (XW.cv w3) (by first | rfl | assumption) ?_
      refine X_ivv (pc := 50) _ dX5_firstX_50 cv_X5_160_4 (MoK.ob (XW.mp w3) w3) rfl (xfromW g w3 w3.mp 20 (St.p (w3.k 20 (by decide))) (OpX.n w3 20 (w3.k 20 (by decide)))) nX6_from (Nat.le_of_ble_eq_true rfl) (Nat.le_of_ble_eq_true rfl) (Nat.le_of_ble_eq_true rfl) (Nat.le_of_ble_eq_true rfl) (fun h4 q4 => ?_)
      obtain ⟨R4, e4, o4, w4⟩ := XW.ab q4
      have op4 := OpX.n w4 20 (w4.k 20 (by decide))
      rw [e4] at op4
      refine X_aload_n (pc := 53) 0 dX5_firstX_53 rfl rfl ?_
      refine X_getfield (pc := 54) dX5_firstX_54 fg_X5_22_3 (XW.cv w4) (by first | rfl | assumption) ?_
      refine X_aload_n (pc := 57) 0 dX5_firstX_57 rfl rfl ?_
      refine X_getfield (pc := 58) dX5_firstX_58 fg_X5_56_3 (XW.cv w4) (by first | rfl | assumption) ?_
      refine X_aload_n (pc := 61) 0 dX5_firstX_61 rfl rfl ?_
      refine X_getfield (pc := 62) dX5_firstX_62 fg_X5_56_3 (XW.cv w4) (by first | rfl | assumption) ?_
      refine X_ivi (pc := 65) _ dX5_firstX_65 cv_X5_163_4 (MoK.ob (XW.mp w4) w4) rfl (xinvW g w4 w4.mp 20 (St.p (w4.k 20 (by decide))) op4 (Or.inr gc)) nX6_inverse (Nat.le_of_ble_eq_true rfl) (Nat.le_of_ble_eq_true rfl) (Nat.le_of_ble_eq_true rfl) (Nat.le_of_ble_eq_true rfl) (fun r5 h5 q5 => ?_)
      obtain ⟨v5, -, hv5, q5⟩ := q5
      obtain ⟨R5, e5, o5, w5⟩ := XW.ab q5
      have op5 := OpX.n w5 20 (w5.k 20 (by decide))
      rw [e5, hv5 gc] at op5
      refine X_istore_n (pc := 68) (L' := [(3, .int _), (0, .ref _), (1, .ref _), (2, .ref _)]) dX5_firstX_68 rfl (Nat.le_of_ble_eq_true rfl) rfl ?_
      refine X_aload_n (pc := 69) 1 dX5_firstX_69 rfl rfl ?_
      refine X_getfield (pc := 70) dX5_firstX_70 fg_X5_22_3 (XW.cv w5) (by first | rfl | assumption) ?_
      refine X_aload_n (pc := 73) 1 dX5_firstX_73 rfl rfl ?_
      refine X_getfield (pc := 74) dX5_firstX_74 fg_X5_56_3 (XW.cv w5) (by first | rfl | assumption) ?_
      refine X_aload_n (pc := 77) 1 dX5_firstX_77 rfl rfl ?_
      refine X_getfield (pc := 78) dX5_firstX_78 fg_X5_56_3 (XW.cv w5) (by first | rfl | assumption) ?_
      refine X_ivv (pc := 81) _ dX5_firstX_81 cv_X5_97_4 (MoK.ob (XW.mp w5) w5) rfl (xinW g w5 w5.mp 20 (St.p (w5.k 20 (by decide))) op5) nX6_in (Nat.le_of_ble_eq_true rfl) (Nat.le_of_ble_eq_true rfl) (Nat.le_of_ble_eq_true rfl) (Nat.le_of_ble_eq_true rfl) (fun h6 q6 => ?_)
      obtain ⟨R6, e6, o6, w6⟩ := XW.ab q6
      have v6 : vm (R6 20) = ivP 36 := by rw [e6, ← v3]; exact vi
      have f6 : ∀ j, j ≠ 20 → j ≠ 21 → R6 j = R j := fun j j1 j2 => by rw [o6 j j1, o5 j j1, o4 j j1, o3 j j1 j2, o2 j j1]
      have xb6 : XB R6 := xb.fr fun j hj => f6 j (by omega) (by omega)
      refine X_aload_n (pc := 84) 1 dX5_firstX_84 rfl rfl ?_
      refine X_getfield (pc := 85) dX5_firstX_85 fg_X5_22_3 (XW.cv w6) (by first | rfl | assumption) ?_
      refine X_aload_n (pc := 88) 1 dX5_firstX_88 rfl rfl ?_
      refine X_getfield (pc := 89) dX5_firstX_89 fg_X5_31_3 (XW.cv w6) (by first | rfl | assumption) ?_
      refine X_aload_n (pc := 92) 1 dX5_firstX_92 rfl rfl ?_
      refine X_getfield (pc := 93) dX5_firstX_93 fg_X5_56_3 (XW.cv w6) (by first | rfl | assumption) ?_
      refine X_aload_n (pc := 96) 3 dX5_firstX_96 rfl rfl ?_
      refine X_ivv (pc := 97) _ dX5_firstX_97 cv_X5_140_4 (MoK.ob (XW.mp w6) w6) rfl (xmPr g w6 o 12 20 (St.p ho) (Or.inl (w6.k 12 (by decide))) (Or.inl (w6.k 20 (by decide)))) nX6_mul (Nat.le_of_ble_eq_true rfl) (Nat.le_of_ble_eq_true rfl) (Nat.le_of_ble_eq_true rfl) (Nat.le_of_ble_eq_true rfl) (fun h7 q7 => ?_)
      have v7 := vx_M (k := o) xb6.b (⟨v6, w6.lt (w6.k 20 (by decide))⟩ : vx R6 20 (ivP 36))
      subst hQ
      refine X_return (pc := 100) dX5_firstX_100 rfl (Nat.le_of_ble_eq_true rfl) (Nat.le_of_ble_eq_true rfl) ?_
      refine ⟨rfl, _, fun j j1 j2 j3 => (up_ne j3).trans (f6 j j1 j2), ?_, q7⟩
      rw [if_pos hv0]
      exact v7.1.trans (fx1 _ _)
  · rw [if_neg hz] at er
    subst er
    have hv0 : vm (R 18) ≠ 0 := fun z => hz ((vm_0 l18).mp z)
    obtain ⟨gc, vi⟩ := inv_vm l18 hv0
    refine X_if_eq (pc := 4) 101 dX5_firstX_4 (by decide) (fun c_4 => ?_) (fun c_4 => ?_)
    · skip
      refine X_aload_n (pc := 101) 0 dX5_firstX_101 rfl rfl ?_
      refine X_getfield (pc := 102) dX5_firstX_102 fg_X5_22_3 (XW.cv w) (by first | rfl | assumption) ?_
      refine X_aload_n (pc := 105) 1 dX5_firstX_105 rfl rfl ?_
      refine X_aload_n (pc := 106) 0 dX5_firstX_106 rfl rfl ?_
      refine X_getfield (pc := 107) dX5_firstX_107 fg_X5_56_3 (XW.cv w) (by first | rfl | assumption) ?_
      refine X_ivv (pc := 110) _ dX5_firstX_110 cv_X5_160_4 (MoK.ob (XW.mp w) w) rfl (xfromW g w w.mp 20 (St.p (w.k 20 (by decide))) (OpX.n w 18 (w.k 18 (by decide)))) nX6_from (Nat.le_of_ble_eq_true rfl) (Nat.le_of_ble_eq_true rfl) (Nat.le_of_ble_eq_true rfl) (Nat.le_of_ble_eq_true rfl) (fun h4 q4 => ?_)
      obtain ⟨R4, e4, o4, w4⟩ := XW.ab q4
      have op4 := OpX.n w4 20 (w4.k 20 (by decide))
      rw [e4] at op4
      refine X_aload_n (pc := 113) 0 dX5_firstX_113 rfl rfl ?_
      refine X_getfield (pc := 114) dX5_firstX_114 fg_X5_22_3 (XW.cv w4) (by first | rfl | assumption) ?_
      refine X_aload_n (pc := 117) 0 dX5_firstX_117 rfl rfl ?_
      refine X_getfield (pc := 118) dX5_firstX_118 fg_X5_56_3 (XW.cv w4) (by first | rfl | assumption) ?_
      refine X_aload_n (pc := 121) 0 dX5_firstX_121 rfl rfl ?_
      refine X_getfield (pc := 122) dX5_firstX_122 fg_X5_56_3 (XW.cv w4) (by first | rfl | assumption) ?_
      refine X_ivi (pc := 125) _ dX5_firstX_125 cv_X5_163_4 (MoK.ob (XW.mp w4) w4) rfl (xinvW g w4 w4.mp 20 (St.p (w4.k 20 (by decide))) op4 (Or.inr gc)) nX6_inverse (Nat.le_of_ble_eq_true rfl) (Nat.le_of_ble_eq_true rfl) (Nat.le_of_ble_eq_true rfl) (Nat.le_of_ble_eq_true rfl) (fun r5 h5 q5 => ?_)
      obtain ⟨v5, -, hv5, q5⟩ := q5
      obtain ⟨R5, e5, o5, w5⟩ := XW.ab q5
      have op5 := OpX.n w5 20 (w5.k 20 (by decide))
      rw [e5, hv5 gc] at op5
      refine X_istore_n (pc := 128) (L' := [(3, .int _), (0, .ref _), (1, .ref _), (2, .ref _)]) dX5_firstX_128 rfl (Nat.le_of_ble_eq_true rfl) rfl ?_
      refine X_aload_n (pc := 129) 1 dX5_firstX_129 rfl rfl ?_
      refine X_getfield (pc := 130) dX5_firstX_130 fg_X5_22_3 (XW.cv w5) (by first | rfl | assumption) ?_
      refine X_aload_n (pc := 133) 1 dX5_firstX_133 rfl rfl ?_
      refine X_getfield (pc := 134) dX5_firstX_134 fg_X5_56_3 (XW.cv w5) (by first | rfl | assumption) ?_
      refine X_aload_n (pc := 137) 1 dX5_firstX_137 rfl rfl ?_
      refine X_getfield (pc := 138) dX5_firstX_138 fg_X5_56_3 (XW.cv w5) (by first | rfl | assumption) ?_
      refine X_ivv (pc := 141) _ dX5_firstX_141 cv_X5_97_4 (MoK.ob (XW.mp w5) w5) rfl (xinW g w5 w5.mp 20 (St.p (w5.k 20 (by decide))) op5) nX6_in (Nat.le_of_ble_eq_true rfl) (Nat.le_of_ble_eq_true rfl) (Nat.le_of_ble_eq_true rfl) (Nat.le_of_ble_eq_true rfl) (fun h6 q6 => ?_)
      obtain ⟨R6, e6, o6, w6⟩ := XW.ab q6
      have v6 : vm (R6 20) = ivP (vm (R 18)) := by rw [e6]; exact vi
      have f6 : ∀ j, j ≠ 20 → R6 j = R j := fun j j1 => by rw [o6 j j1, o5 j j1, o4 j j1]
      have o1p := (XW.mp w6).o1 w6
      rw [← oneP_ok] at o1p
      refine X_aload_n (pc := 144) 1 dX5_firstX_144 rfl rfl ?_
      refine X_getfield (pc := 145) dX5_firstX_145 fg_X5_22_3 (XW.cv w6) (by first | rfl | assumption) ?_
      refine X_aload_n (pc := 148) 1 dX5_firstX_148 rfl rfl ?_
      refine X_getfield (pc := 149) dX5_firstX_149 fg_X5_56_3 (XW.cv w6) (by first | rfl | assumption) ?_
      refine X_aload_n (pc := 152) 1 dX5_firstX_152 rfl rfl ?_
      refine X_getfield (pc := 153) dX5_firstX_153 fg_X5_22_3 (XW.cv w6) (by first | rfl | assumption) ?_
      refine X_getfield (pc := 156) dX5_firstX_156 fg_X5_111_4 (MoK.ob (XW.mp w6) w6) (by first | rfl | assumption) ?_
      refine X_aload_n (pc := 159) 1 dX5_firstX_159 rfl rfl ?_
      refine X_getfield (pc := 160) dX5_firstX_160 fg_X5_56_3 (XW.cv w6) (by first | rfl | assumption) ?_
      refine X_ivv (pc := 163) _ dX5_firstX_163 cv_X5_129_4 (MoK.ob (XW.mp w6) w6) rfl (xaddW g w6 w6.mp 20 (St.p (w6.k 20 (by decide))) (OpX.n w6 20 (w6.k 20 (by decide))) o1p (w6.lt (w6.k 20 (by decide))) oneP_lt) nX6_add (Nat.le_of_ble_eq_true rfl) (Nat.le_of_ble_eq_true rfl) (Nat.le_of_ble_eq_true rfl) (Nat.le_of_ble_eq_true rfl) (fun h7 q7 => ?_)
      obtain ⟨R7, e7, o7, w7⟩ := XW.ab q7
      have v7 : vm (R7 20) = ivP (vm (R 18)) + 1 := by rw [e7, vm_add, v6, oneP_v]
      have f7 : ∀ j, j ≠ 20 → R7 j = R j := fun j j1 => by rw [o7 j j1, f6 j j1]
      have xb7 : XB R7 := xb.fr fun j hj => f7 j (by omega)
      refine X_aload_n (pc := 166) 1 dX5_firstX_166 rfl rfl ?_
      refine X_getfield (pc := 167) dX5_firstX_167 fg_X5_22_3 (XW.cv w7) (by first | rfl | assumption) ?_
      refine X_aload_n (pc := 170) 1 dX5_firstX_170 rfl rfl ?_
      refine X_getfield (pc := 171) dX5_firstX_171 fg_X5_56_3 (XW.cv w7) (by first | rfl | assumption) ?_
      refine X_aload_n (pc := 174) 1 dX5_firstX_174 rfl rfl ?_
      refine X_getfield (pc := 175) dX5_firstX_175 fg_X5_31_3 (XW.cv w7) (by first | rfl | assumption) ?_
      refine X_aload_n (pc := 178) 1 dX5_firstX_178 rfl rfl ?_
      refine X_getfield (pc := 179) dX5_firstX_179 fg_X5_56_3 (XW.cv w7) (by first | rfl | assumption) ?_
      refine X_ivv (pc := 182) _ dX5_firstX_182 cv_X5_140_4 (MoK.ob (XW.mp w7) w7) rfl (xmPr g w7 20 20 12 (St.p (w7.k 20 (by decide))) (Or.inl (w7.k 20 (by decide))) (Or.inl (w7.k 12 (by decide)))) nX6_mul (Nat.le_of_ble_eq_true rfl) (Nat.le_of_ble_eq_true rfl) (Nat.le_of_ble_eq_true rfl) (Nat.le_of_ble_eq_true rfl) (fun h8 q8 => ?_)
      have v8' := vx_M (k := 20) (⟨v7, w7.lt (w7.k 20 (by decide))⟩ : vx R7 20 _) xb7.b
      obtain ⟨R8, e8, o8, w8⟩ := XW.ab q8
      have v8 : vm (R8 20) = (ivP (vm (R 18)) + 1) * BP := by rw [e8]; exact (congrArg vm (up_same _ _ _).symm).trans v8'.1
      have f8 : ∀ j, j ≠ 20 → R8 j = R j := fun j j1 => by rw [o8 j j1, f7 j j1]
      have xb8 : XB R8 := xb.fr fun j hj => f8 j (by omega)
      obtain ⟨gc3, vi3⟩ := inv_vm (x := R8 15) (by rw [xb8.2.2.2.1]; exact tMx_lt) (by rw [xb8.three.1]; exact fp3_ne)
      rw [xb8.three.1] at vi3
      refine X_aload_n (pc := 185) 1 dX5_firstX_185 rfl rfl ?_
      refine X_getfield (pc := 186) dX5_firstX_186 fg_X5_22_3 (XW.cv w8) (by first | rfl | assumption) ?_
      refine X_aload_n (pc := 189) 1 dX5_firstX_189 rfl rfl ?_
      refine X_getfield (pc := 190) dX5_firstX_190 fg_X5_41_3 (XW.cv w8) (by first | rfl | assumption) ?_
      refine X_aload_n (pc := 193) 1 dX5_firstX_193 rfl rfl ?_
      refine X_getfield (pc := 194) dX5_firstX_194 fg_X5_59_3 (XW.cv w8) (by first | rfl | assumption) ?_
      refine X_ivv (pc := 197) _ dX5_firstX_197 cv_X5_160_4 (MoK.ob (XW.mp w8) w8) rfl (xfromW g w8 w8.mp 21 (St.p (w8.k 21 (by decide))) (OpX.n w8 15 (w8.k 15 (by decide)))) nX6_from (Nat.le_of_ble_eq_true rfl) (Nat.le_of_ble_eq_true rfl) (Nat.le_of_ble_eq_true rfl) (Nat.le_of_ble_eq_true rfl) (fun h9 q9 => ?_)
      obtain ⟨R9, e9, o9, w9⟩ := XW.ab q9
      have op9 := OpX.n w9 21 (w9.k 21 (by decide))
      rw [e9] at op9
      refine X_aload_n (pc := 200) 1 dX5_firstX_200 rfl rfl ?_
      refine X_getfield (pc := 201) dX5_firstX_201 fg_X5_22_3 (XW.cv w9) (by first | rfl | assumption) ?_
      refine X_aload_n (pc := 204) 1 dX5_firstX_204 rfl rfl ?_
      refine X_getfield (pc := 205) dX5_firstX_205 fg_X5_59_3 (XW.cv w9) (by first | rfl | assumption) ?_
      refine X_aload_n (pc := 208) 1 dX5_firstX_208 rfl rfl ?_
      refine X_getfield (pc := 209) dX5_firstX_209 fg_X5_59_3 (XW.cv w9) (by first | rfl | assumption) ?_
      refine X_ivi (pc := 212) _ dX5_firstX_212 cv_X5_163_4 (MoK.ob (XW.mp w9) w9) rfl (xinvW g w9 w9.mp 21 (St.p (w9.k 21 (by decide))) op9 (Or.inr gc3)) nX6_inverse (Nat.le_of_ble_eq_true rfl) (Nat.le_of_ble_eq_true rfl) (Nat.le_of_ble_eq_true rfl) (Nat.le_of_ble_eq_true rfl) (fun r10 h10 q10 => ?_)
      obtain ⟨v10, -, hv10, q10⟩ := q10
      obtain ⟨R10, e10, o10, w10⟩ := XW.ab q10
      have op10 := OpX.n w10 21 (w10.k 21 (by decide))
      rw [e10, hv10 gc3] at op10
      refine X_istore_n (pc := 215) (L' := [(3, .int _), (0, .ref _), (1, .ref _), (2, .ref _)]) dX5_firstX_215 rfl (Nat.le_of_ble_eq_true rfl) rfl ?_
      refine X_aload_n (pc := 216) 1 dX5_firstX_216 rfl rfl ?_
      refine X_getfield (pc := 217) dX5_firstX_217 fg_X5_22_3 (XW.cv w10) (by first | rfl | assumption) ?_
      refine X_aload_n (pc := 220) 1 dX5_firstX_220 rfl rfl ?_
      refine X_getfield (pc := 221) dX5_firstX_221 fg_X5_59_3 (XW.cv w10) (by first | rfl | assumption) ?_
      refine X_aload_n (pc := 224) 1 dX5_firstX_224 rfl rfl ?_
      refine X_getfield (pc := 225) dX5_firstX_225 fg_X5_59_3 (XW.cv w10) (by first | rfl | assumption) ?_
      refine X_ivv (pc := 228) _ dX5_firstX_228 cv_X5_97_4 (MoK.ob (XW.mp w10) w10) rfl (xinW g w10 w10.mp 21 (St.p (w10.k 21 (by decide))) op10) nX6_in (Nat.le_of_ble_eq_true rfl) (Nat.le_of_ble_eq_true rfl) (Nat.le_of_ble_eq_true rfl) (Nat.le_of_ble_eq_true rfl) (fun h11 q11 => ?_)
      obtain ⟨R11, e11, o11, w11⟩ := XW.ab q11
      have v11 : vm (R11 21) = ivP 3 := by rw [e11]; exact vi3
      have v20 : vm (R11 20) = (ivP (vm (R 18)) + 1) * BP := by rw [o11 20 (by decide), o10 20 (by decide), o9 20 (by decide)]; exact v8
      have f11 : ∀ j, j ≠ 20 → j ≠ 21 → R11 j = R j := fun j j1 j2 => by rw [o11 j j2, o10 j j2, o9 j j2, f8 j j1]
      refine X_aload_n (pc := 231) 1 dX5_firstX_231 rfl rfl ?_
      refine X_getfield (pc := 232) dX5_firstX_232 fg_X5_22_3 (XW.cv w11) (by first | rfl | assumption) ?_
      refine X_aload_n (pc := 235) 1 dX5_firstX_235 rfl rfl ?_
      refine X_getfield (pc := 236) dX5_firstX_236 fg_X5_56_3 (XW.cv w11) (by first | rfl | assumption) ?_
      refine X_aload_n (pc := 239) 1 dX5_firstX_239 rfl rfl ?_
      refine X_getfield (pc := 240) dX5_firstX_240 fg_X5_59_3 (XW.cv w11) (by first | rfl | assumption) ?_
      refine X_aload_n (pc := 243) 3 dX5_firstX_243 rfl rfl ?_
      refine X_ivv (pc := 244) _ dX5_firstX_244 cv_X5_140_4 (MoK.ob (XW.mp w11) w11) rfl (xmPr g w11 o 20 21 (St.p ho) (Or.inl (w11.k 20 (by decide))) (Or.inl (w11.k 21 (by decide)))) nX6_mul (Nat.le_of_ble_eq_true rfl) (Nat.le_of_ble_eq_true rfl) (Nat.le_of_ble_eq_true rfl) (Nat.le_of_ble_eq_true rfl) (fun h12 q12 => ?_)
      have v12 := vx_M (k := o) (⟨v20, w11.lt (w11.k 20 (by decide))⟩ : vx R11 20 _) (⟨v11, w11.lt (w11.k 21 (by decide))⟩ : vx R11 21 _)
      subst hQ
      refine X_return (pc := 247) dX5_firstX_247 rfl (Nat.le_of_ble_eq_true rfl) (Nat.le_of_ble_eq_true rfl) ?_
      refine ⟨rfl, _, fun j j1 j2 j3 => (up_ne j3).trans (f11 j j1 j2), ?_, q12⟩
      rw [if_neg hv0]
      exact v12.1.trans (fx2 _ _ _)
    · exact absurd rfl c_4
end XM9
