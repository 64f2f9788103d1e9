set_option maxRecDepth 100000
/-! VeilMint's long digest comes to its end -/
section XEL
variable {kd : Nat → KD} {A : Nat → Nat} {X : AH} {R : Nat → Nat} {S : Nat → List Int32} {O : Nat → AC} {F : Nat → Int32} {h : AH} {l : List Int32}
theorem tellL_ok (g : GX) (w : XW kd A X R S O F h) {fc : Nat → Int64} (ch : h (A 9) = some (Al false 8 fc)) :
    MT g MX4_tell ({ frames := 0, cells := 0, slots := 0, locals := 0 } : Room) [.ref (A 6)] h (RV fun h' => XW kd A X R (up S 8 ((List.range 48).map (dgL fc))) O F h') := by
  refine MT.of (by decide) (Nat.le_of_ble_eq_true rfl) ?_
  have nHT : A 9 ≠ A 8 := w.ne (by rw [w.k 9 (by decide)]; decide) (by rw [w.k 8 (by decide)]; decide) (by decide)
  have loop : ∀ m i, i + m = 48 → ∀ h', h' (A 9) = some (Al false 8 fc) → XW kd A X R (up S 8 ((List.range i).map (dgL fc))) O F h' → XX g MX4_tell ({ frames := 0, cells := 0, slots := 0, locals := 0 } : Room) (RV fun h' => XW kd A X R (up S 8 ((List.range 48).map (dgL fc))) O F h') 0 0 2 [(1, .int (nI i)), (0, .ref (A 6))] [] h' := by
    intro m
    induction m with
    | zero =>
      intro i hi h' ch' w'
      have e : i = 48 := by omega
      subst e
      refine X_iload_n (pc := 2) 0 dX4_tell_2 rfl rfl ?_
      refine X_bipush (pc := 3) (x := 48) dX4_tell_3 (by decide) ?_
      refine X_cge (a := 48) (b := 48) (pc := 5) 41 dX4_tell_5 (by decide) (by omega) (by omega) (fun _ => ?_) (fun c => absurd c (by omega))
      refine X_return (pc := 41) dX4_tell_41 rfl (Nat.le_of_ble_eq_true rfl) (Nat.le_of_ble_eq_true rfl) ?_
      exact ⟨rfl, w'⟩
    | succ m ih =>
      intro i hi h' ch' w'
      obtain ⟨ft, ct, pt, -⟩ := w'.s 8 (w'.k 8 (by decide))
      rw [up_same] at pt
      have hli : ((List.range i).map (dgL fc)).length = i := by rw [List.length_map, List.length_range]
      have ci : (nI i).toNatClampNeg = i := nI_clamp (by omega)
      have bi : vp_in (nI i) 48 := vp_in_nI (by omega) (by omega)
      have cq : (nI (i / 8)).toNatClampNeg = i / 8 := nI_clamp (by omega)
      have bq : vp_in (nI (i / 8)) 8 := vp_in_nI (by omega) (by omega)
      refine X_iload_n (pc := 2) 0 dX4_tell_2 rfl rfl ?_
      refine X_bipush (pc := 3) (x := 48) dX4_tell_3 (by decide) ?_
      refine X_cge (b := 48) (pc := 5) 41 dX4_tell_5 (by decide) (by omega) (by omega) (fun c => absurd c (by omega)) (fun _ => ?_)
      refine X_aload_n (pc := 8) 1 dX4_tell_8 rfl rfl ?_
      refine X_getfield (pc := 9) dX4_tell_9 fg_X4_40_2 (XW.dL w') (by first | rfl | assumption) ?_
      refine X_iload_n (pc := 12) 0 dX4_tell_12 rfl rfl ?_
      refine X_aload_n (pc := 13) 1 dX4_tell_13 rfl rfl ?_
      refine X_getfield (pc := 14) dX4_tell_14 fg_X4_7_2 (XW.dL w') (by first | rfl | assumption) ?_
      refine X_iload_n (pc := 17) 0 dX4_tell_17 rfl rfl ?_
      refine X_iconst (pc := 18) (x := 3) dX4_tell_18 (by decide) ?_
      refine X_ishr (pc := 19) dX4_tell_19 ?_
      rw [i_shr3 (by omega)]
      refine X_laload (pc := 20) dX4_tell_20 ch' bq ?_
      refine X_bipush (pc := 21) (x := 56) dX4_tell_21 (by decide) ?_
      refine X_bipush (pc := 23) (x := 8) dX4_tell_23 (by decide) ?_
      refine X_iload_n (pc := 25) 0 dX4_tell_25 rfl rfl ?_
      refine X_bipush (pc := 26) (x := 7) dX4_tell_26 (by decide) ?_
      refine X_iand (pc := 28) dX4_tell_28 ?_
      rw [cq, i_and7 (by omega)]
      refine X_imul (pc := 29) dX4_tell_29 ?_
      refine X_isub (pc := 30) dX4_tell_30 ?_
      rw [show (8 : Int32) * nI (i % 8) = nI (8 * (i % 8)) from pk_mul 8 _, show (56 : Int32) - nI (8 * (i % 8)) = nI (56 - 8 * (i % 8)) from pk_sub (a := 56) (by omega)]
      refine X_lshr (pc := 31) dX4_tell_31 ?_
      refine X_l2i (pc := 32) dX4_tell_32 ?_
      refine X_i2b (pc := 33) dX4_tell_33 ?_
      refine X_bastore (pc := 34) dX4_tell_34 ct bi ?_
      rw [ci, i8i]
      have w2 := w'.setS 8 (w'.k 8 (by decide)) (PL_app (x := dgL fc i) pt hli.symm) (by rw [List.length_append, hli]; show i + 1 ≤ 48; omega)
      rw [up_up', ← List.map_singleton (f := dgL fc), ← List.map_append, ← List.range_succ] at w2
      have ch2 : hset h' (A 8) (Ai false 2 48 (upd ft i (dgL fc i))) (A 9) = some (Al false 8 fc) := by rw [hset_ne nHT]; exact ch'
      refine X_iinc (pc := 35) (L' := [(1, .int (_ + 1)), (0, .ref _)]) 0 dX4_tell_35 rfl rfl (Nat.le_of_ble_eq_true rfl) rfl ?_
      refine X_goto (pc := 38) 2 dX4_tell_38 (by decide) ?_
      rw [show nI i + 1 = nI (i + 1) from nI_add i 1]
      exact ih (i + 1) (by omega) _ ch2 w2
  refine X_iconst (pc := 0) (x := 0) dX4_tell_0 (by decide) ?_
  refine X_istore_n (pc := 1) (L' := [(1, .int _), (0, .ref _)]) dX4_tell_1 rfl (Nat.le_of_ble_eq_true rfl) rfl ?_
  exact loop 48 0 (by omega) h ch (by rw [List.range_zero, List.map_nil]; exact w.nilS (w.k 8 (by decide)))
/-- the digest is told -/
def EL (kd : Nat → KD) (A : Nat → Nat) (X : AH) (R : Nat → Nat) (S : Nat → List Int32) (O : Nat → AC) (F : Nat → Int32) (l : List Int32) (h : AH) : Prop :=
  ∃ F', (∀ j, j ≠ 22 → j ≠ 23 → F' j = F j) ∧ XW kd A X R (up S 8 (sha384 l)) O F' h
set_option maxHeartbeats 4000000 in
theorem endL_ok (g : GX) (d : DL kd A X R S O F l h) (hl : l.length + 300 < 2 ^ 28) :
    MT g MX2_end ({ frames := 3, cells := 0, slots := 0, locals := 84 } : Room) [.ref (A 6)] h (RR fun r h' => r = A 8 ∧ EL kd A X R S O F l h') := by
  refine MT.of (by decide) (Nat.le_of_ble_eq_true rfl) ?_
  generalize hPost : (RR fun r h' => r = A 8 ∧ EL kd A X R S O F l h') = Post
  have hZ : padZ l.length 128 16 < 128 := Nat.mod_lt _ (by decide)
  have hZ1 : ∀ i, i < padZ l.length 128 16 → (l.length + 1 + i) % 128 ≠ 128 - 16 := by
    intro i hi
    unfold padZ at hi
    omega
  have hZ2 : (l.length + 1 + padZ l.length 128 16) % 128 = 128 - 16 := by
    unfold padZ
    omega
  -- the end
  have fin : ∀ h', DL kd A X R S O F (l ++ padL l.length 128 16) h' → ∀ x : Int32, XX g MX2_end ({ frames := 3, cells := 0, slots := 0, locals := 84 } : Room) Post 0 0 90 [(4, .int x), (3, .int (nI 16)), (1, .long (lN (8 * l.length))), (0, .ref (A 6))] [] h' := by
    intro h' d' x
    obtain ⟨w, ⟨fc, ch, hfc⟩, -⟩ := d'
    refine X_aload_n (pc := 90) 3 dX2_end_90 rfl rfl ?_
    refine X_ivv (pc := 91) _ dX2_end_91 cv_X2_46_2 (XW.dL w) rfl (tellL_ok g w ch) nX4_tell (Nat.le_of_ble_eq_true rfl) (Nat.le_of_ble_eq_true rfl) (Nat.le_of_ble_eq_true rfl) (Nat.le_of_ble_eq_true rfl) (fun h2 w2 => ?_)
    have es : (List.range 48).map (dgL fc) = sha384 l := by
      unfold sha384
      apply List.map_congr_left
      intro j hj
      have hj2 := List.mem_range.mp hj
      unfold dgL
      rw [hfc _ (by omega)]
    rw [es] at w2
    refine X_aload_n (pc := 94) 3 dX2_end_94 rfl rfl ?_
    refine X_getfield (pc := 95) dX2_end_95 fg_X2_13_2 (XW.dL w2) (by first | rfl | assumption) ?_
    subst hPost
    refine X_aret (pc := 98) dX2_end_98 rfl (Or.inr ⟨_, rfl⟩) (Or.inr ⟨_, rfl⟩) (Nat.le_of_ble_eq_true rfl) (Nat.le_of_ble_eq_true rfl) ?_
    exact ⟨_, rfl, rfl, _, fun j j1 j2 => (up_ne j2).trans (up_ne j1), w2⟩
  have loop2 : ∀ m, m ≤ 16 → ∀ h', DL kd A X R S O F (l ++ tb 128 :: (List.replicate (padZ l.length 128 16) (tb 0) ++ (List.range (16 - m)).map (lenB l.length 16))) h' →
      XX g MX2_end ({ frames := 3, cells := 0, slots := 0, locals := 84 } : Room) Post 0 0 58 [(4, .int (nI (8 * m) - 8)), (3, .int (nI 16)), (1, .long (lN (8 * l.length))), (0, .ref (A 6))] [] h' := by
    intro m
    induction m with
    | zero =>
      intro _ h' d'
      refine X_iload (pc := 58) 0 dX2_end_58 rfl ?_
      refine X_if_lt (pc := 60) 90 dX2_end_60 (by decide) (fun c_60 => ?_) (fun c_60 => ?_)
      · exact fin h' d' _
      · exact absurd (show nI (8 * 0) - 8 < 0 by decide) c_60
    | succ k ih =>
      intro hk h' d'
      have e8 : nI (8 * (k + 1)) - 8 = nI (8 * k) := by rw [show (8 : Int32) = nI 8 from rfl, pk_sub (by omega)]; congr 1
      rw [e8]
      have hlen : (l ++ tb 128 :: (List.replicate (padZ l.length 128 16) (tb 0) ++ (List.range (16 - (k + 1))).map (lenB l.length 16))).length + 1 < 2 ^ 28 := by
        rw [List.length_append, List.length_cons, List.length_append, List.length_replicate, List.length_map, List.length_range]
        omega
      have hj : 16 - 1 - (16 - (k + 1)) = k := by omega
      have nxt : ∀ (h2 : AH) (r : Nat), DL kd A X R S O F ((l ++ tb 128 :: (List.replicate (padZ l.length 128 16) (tb 0) ++ (List.range (16 - (k + 1))).map (lenB l.length 16))) ++ [lenB l.length 16 (16 - (k + 1))]) h2 →
          XX g MX2_end ({ frames := 3, cells := 0, slots := 0, locals := 84 } : Room) Post 0 0 83 [(4, .int (nI (8 * k))), (3, .int (nI 16)), (1, .long (lN (8 * l.length))), (0, .ref (A 6))] [.ref r] h2 := by
        intro h2 r d2
        refine X_pop (pc := 83) dX2_end_83 rfl ?_
        refine X_iinc (pc := 84) (L' := [(4, .int (_ + (-8))), (3, .int _), (1, .long _), (0, .ref _)]) 0 dX2_end_84 rfl rfl (Nat.le_of_ble_eq_true rfl) rfl ?_
        refine X_goto (pc := 87) 58 dX2_end_87 (by decide) ?_
        rw [show nI (8 * k) + (-8) = nI (8 * k) - 8 by rw [Int32.sub_eq_add_neg]]
        refine ih (by omega) h2 ?_
        rw [List.append_assoc, List.cons_append, List.append_assoc, ← List.map_singleton (f := lenB l.length 16), ← List.map_append, ← List.range_succ, show (16 - (k + 1)).succ = 16 - k by omega] at d2
        exact d2
      refine X_iload (pc := 58) 0 dX2_end_58 rfl ?_
      refine X_if_lt (pc := 60) 90 dX2_end_60 (by decide) (fun c_60 => ?_) (fun c_60 => ?_)
      · exact absurd c_60 (nI_pos (by omega))
      · skip
        refine X_aload_n (pc := 63) 3 dX2_end_63 rfl rfl ?_
        refine X_iload (pc := 64) 0 dX2_end_64 rfl ?_
        refine X_bipush (pc := 66) (x := 64) dX2_end_66 (by decide) ?_
        by_cases h8 : k < 8
        · refine X_icmp_ge (pc := 68) 79 dX2_end_68 (by decide) (fun c => absurd c (nI_ge (b := 64) (by omega) (by decide))) (fun _ => ?_)
          refine X_lload_n (pc := 71) 2 dX2_end_71 rfl rfl ?_
          refine X_iload (pc := 72) 0 dX2_end_72 rfl ?_
          refine X_lshr (pc := 74) dX2_end_74 ?_
          rw [lshr_lN (by omega) _ (ls_n (8 * k) (by omega))]
          refine X_l2i (pc := 75) dX2_end_75 ?_
          rw [lN_i]
          refine X_goto (pc := 76) 80 dX2_end_76 (by decide) ?_
          refine X_ivr (pc := 80) _ dX2_end_80 cv_X2_30_2 (XW.dL d'.1) rfl (xputL_ok g d' _ hlen) nX2_put_2 (Nat.le_of_ble_eq_true rfl) (Nat.le_of_ble_eq_true rfl) (Nat.le_of_ble_eq_true rfl) (Nat.le_of_ble_eq_true rfl) (fun r2 h2 q2 => ?_)
          obtain ⟨rfl, d2⟩ := q2
          rw [tb_i] at d2
          refine nxt h2 _ ?_
          have e : lenB l.length 16 (16 - (k + 1)) = tb (8 * l.length / 2 ^ (8 * k)) := by unfold lenB; rw [hj, if_pos h8]
          rw [e]
          exact d2
        · refine X_icmp_ge (pc := 68) 79 dX2_end_68 (by decide) (fun _ => ?_) (fun c => absurd (nI_le (a := 64) (by omega) (by omega)) c)
          refine X_iconst (pc := 79) (x := 0) dX2_end_79 (by decide) ?_
          refine X_ivr (pc := 80) _ dX2_end_80 cv_X2_30_2 (XW.dL d'.1) rfl (xputL_ok g d' _ hlen) nX2_put_2 (Nat.le_of_ble_eq_true rfl) (Nat.le_of_ble_eq_true rfl) (Nat.le_of_ble_eq_true rfl) (Nat.le_of_ble_eq_true rfl) (fun r2 h2 q2 => ?_)
          obtain ⟨rfl, d2⟩ := q2
          refine nxt h2 _ ?_
          have e : lenB l.length 16 (16 - (k + 1)) = tb 0 := by unfold lenB; rw [hj, if_neg h8]
          rw [e]
          exact d2
  have loop1 : ∀ m i, i + m = padZ l.length 128 16 → ∀ h', DL kd A X R S O F (l ++ tb 128 :: List.replicate i (tb 0)) h' →
      XX g MX2_end ({ frames := 3, cells := 0, slots := 0, locals := 84 } : Room) Post 0 0 26 [(3, .int (nI 16)), (1, .long (lN (8 * l.length))), (0, .ref (A 6))] [] h' := by
    intro m
    induction m with
    | zero =>
      intro i hi h' d'
      have hlen : (l ++ tb 128 :: List.replicate i (tb 0)).length = l.length + 1 + i := by
        rw [List.length_append, List.length_cons, List.length_replicate]
        omega
      obtain ⟨fb, cb, -⟩ := d'.2.2
      have ea := fDL_at F (l ++ tb 128 :: List.replicate i (tb 0))
      rw [hlen] at ea
      have ei : i = padZ l.length 128 16 := by omega
      subst ei
      refine X_aload_n (pc := 26) 2 dX2_end_26 rfl rfl ?_
      refine X_getfield (pc := 27) dX2_end_27 fg_X2_20_2 (XW.dL d'.1) (by first | rfl | assumption) ?_
      refine X_aload_n (pc := 30) 2 dX2_end_30 rfl rfl ?_
      refine X_getfield (pc := 31) dX2_end_31 fg_X2_7_2 (XW.dL d'.1) (by first | rfl | assumption) ?_
      refine X_alenI (pc := 34) dX2_end_34 cb (fun _ => rfl) ?_
      refine X_iload_n (pc := 35) 0 dX2_end_35 rfl rfl ?_
      refine X_isub (pc := 36) dX2_end_36 ?_
      rw [ea, hZ2]
      refine X_icmp_eq (pc := 37) 49 dX2_end_37 (by decide) (fun _ => ?_) (fun c => absurd (by decide) c)
      refine X_bipush (pc := 49) (x := 8) dX2_end_49 (by decide) ?_
      refine X_iload_n (pc := 51) 0 dX2_end_51 rfl rfl ?_
      refine X_imul (pc := 52) dX2_end_52 ?_
      refine X_bipush (pc := 53) (x := 8) dX2_end_53 (by decide) ?_
      refine X_isub (pc := 55) dX2_end_55 ?_
      refine X_istore (pc := 56) (L' := [(4, .int _), (3, .int _), (1, .long _), (0, .ref _)]) dX2_end_56 (Nat.le_of_ble_eq_true rfl) rfl ?_
      refine loop2 16 (Nat.le_refl _) h' ?_
      rw [Nat.sub_self, List.range_zero, List.map_nil, List.append_nil]
      exact d'
    | succ m ih =>
      intro i hi h' d'
      have hlen : (l ++ tb 128 :: List.replicate i (tb 0)).length = l.length + 1 + i := by
        rw [List.length_append, List.length_cons, List.length_replicate]
        omega
      obtain ⟨fb, cb, -⟩ := d'.2.2
      have ea := fDL_at F (l ++ tb 128 :: List.replicate i (tb 0))
      rw [hlen] at ea
      have hz1 := hZ1 i (by omega)
      refine X_aload_n (pc := 26) 2 dX2_end_26 rfl rfl ?_
      refine X_getfield (pc := 27) dX2_end_27 fg_X2_20_2 (XW.dL d'.1) (by first | rfl | assumption) ?_
      refine X_aload_n (pc := 30) 2 dX2_end_30 rfl rfl ?_
      refine X_getfield (pc := 31) dX2_end_31 fg_X2_7_2 (XW.dL d'.1) (by first | rfl | assumption) ?_
      refine X_alenI (pc := 34) dX2_end_34 cb (fun _ => rfl) ?_
      refine X_iload_n (pc := 35) 0 dX2_end_35 rfl rfl ?_
      refine X_isub (pc := 36) dX2_end_36 ?_
      rw [ea]
      refine X_icmp_eq (pc := 37) 49 dX2_end_37 (by decide) (fun c => absurd (nI_inj' (a := (l.length + 1 + i) % 128) (b := 128 - 16) (by omega) (by omega) (c.trans (by decide))) hz1) (fun _ => ?_)
      refine X_aload_n (pc := 40) 2 dX2_end_40 rfl rfl ?_
      refine X_iconst (pc := 41) (x := 0) dX2_end_41 (by decide) ?_
      refine X_ivr (pc := 42) _ dX2_end_42 cv_X2_30_2 (XW.dL d'.1) rfl (xputL_ok g d' 0 (by rw [hlen]; omega)) nX2_put_2 (Nat.le_of_ble_eq_true rfl) (Nat.le_of_ble_eq_true rfl) (Nat.le_of_ble_eq_true rfl) (Nat.le_of_ble_eq_true rfl) (fun r2 h2 q2 => ?_)
      obtain ⟨rfl, d2⟩ := q2
      refine X_pop (pc := 45) dX2_end_45 rfl ?_
      refine X_goto (pc := 46) 26 dX2_end_46 (by decide) ?_
      refine ih (i + 1) (by omega) h2 ?_
      rw [List.append_assoc, List.cons_append, show List.replicate i (tb 0) ++ [(0 : Int32).toInt8.toInt32] = List.replicate (i + 1) (tb 0) by rw [List.replicate_succ']; rfl] at d2
      exact d2
  obtain ⟨fb, cb, -⟩ := d.2.2
  have em := fDL_mn F l
  refine X_ldc2 (pc := 0) dX2_end_0 q891 ?_
  refine X_aload_n (pc := 3) 0 dX2_end_3 rfl rfl ?_
  refine X_getfield (pc := 4) dX2_end_4 fg_X2_16_2 (XW.dL d.1) (by first | rfl | assumption) ?_
  rw [em, i2l_nI (by omega)]
  refine X_lmul (pc := 7) dX2_end_7 ?_
  rw [show (8 : Int64) * lN l.length = lN (8 * l.length) from lN_mul 8 _]
  refine X_lstore_n (pc := 8) (L' := [(1, .long _), (0, .ref _)]) dX2_end_8 rfl (Nat.le_of_ble_eq_true rfl) rfl ?_
  refine X_aload_n (pc := 9) 1 dX2_end_9 rfl rfl ?_
  refine X_getfield (pc := 10) dX2_end_10 fg_X2_7_2 (XW.dL d.1) (by first | rfl | assumption) ?_
  refine X_alenI (pc := 13) dX2_end_13 cb (fun _ => rfl) ?_
  refine X_bipush (pc := 14) (x := 8) dX2_end_14 (by decide) ?_
  refine X_idiv (pc := 16) dX2_end_16 (by decide) ?_
  refine X_istore_n (pc := 17) (L' := [(3, .int _), (1, .long _), (0, .ref _)]) dX2_end_17 rfl (Nat.le_of_ble_eq_true rfl) rfl ?_
  refine X_aload_n (pc := 18) 2 dX2_end_18 rfl rfl ?_
  refine X_sipush (pc := 19) (x := 128) dX2_end_19 (by decide) ?_
  rw [show (nI 128 / 8 : Int32) = nI 16 from by decide]
  refine X_ivr (pc := 22) _ dX2_end_22 cv_X2_30_2 (XW.dL d.1) rfl (xputL_ok g d 128 (by omega)) nX2_put_2 (Nat.le_of_ble_eq_true rfl) (Nat.le_of_ble_eq_true rfl) (Nat.le_of_ble_eq_true rfl) (Nat.le_of_ble_eq_true rfl) (fun r2 h2 q2 => ?_)
  obtain ⟨rfl, d2⟩ := q2
  refine X_pop (pc := 25) dX2_end_25 rfl ?_
  refine loop1 (padZ l.length 128 16) 0 (by omega) h2 ?_
  exact d2
end XEL
