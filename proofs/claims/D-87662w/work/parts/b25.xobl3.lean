set_option maxRecDepth 100000
/-! VeilMint's keys of the first type: outputs, judging, the challenge -/
section XOb3
variable {kd : Nat → KD} {A : Nat → Nat} {X : AH} {R : Nat → Nat} {S : Nat → List Int32} {O : Nat → AC} {F : Nat → Int32} {h : AH} {B : Nat} {lv : Int32}
theorem en_l49 {P : PP} (h : P ≠ none) : (en P).length = 49 := by
  match P, h with
  | none, h => exact absurd rfl h
  | some (x, y), _ => show (encB x.val y.val).length = 49; unfold encB; rw [List.length_map, List.length_range]
noncomputable def outL (inp el : List Int32) : List Int32 := sha384 ([tb 0, tb 98] ++ inp ++ [tb 0, tb 49] ++ el ++ wrd (chars "Finalize"))
theorem outL_len (inp el : List Int32) : (outL inp el).length = 48 := sha384_len _
set_option maxHeartbeats 4000000 in
theorem outputX_ok (g : GX) (w : XW kd A X R S O F h) (o : ObK kd A O B lv) {ki ni fr kt nt at' : Nat} (hki : kd ki = (6, 2, ni)) (hni : ni < 2 ^ 20) (hkX : ki ≠ 8) (hBi : IsB (S ki)) (hli : fr + 98 ≤ (S ki).length) (hel : (S (B + 9)).length = 49) (hBe : IsB (S (B + 9))) (hkt : kd kt = (6, 2, nt)) (hnt : nt < 2 ^ 20) (hkt8 : kt ≠ 8) (hat : at' ≤ (S kt).length) (ha2 : at' + 48 ≤ nt) :
    MT g MX14_output ({ frames := 6, cells := 0, slots := 0, locals := 128 } : Room) [.ref (A B), .ref (A ki), .int (nI fr), .ref (A kt), .int (nI at')] h
      (RV fun h' => ∃ F', XFr F F' ∧ XW kd A X R (up (up S 8 (outL (sub (S ki) fr 98) (S (B + 9)))) kt ((S kt).take at' ++ outL (sub (S ki) fr 98) (S (B + 9)))) O F' h') := by
  refine MT.of (by decide) (Nat.le_of_ble_eq_true rfl) ?_
  have hB := o.b
  have e8 : (chars "Finalize").length = 8 := by decide
  have l0 : ([] ++ [tb (98 / 256), tb 98] : List Int32).length = 2 := rfl
  refine X_aload_n (pc := 0) 0 dX14_output_0 rfl rfl ?_
  refine X_getfield (pc := 1) dX14_output_1 fg_X14_58_9 (o.ob w) (by first | rfl | assumption) ?_
  refine X_getfield (pc := 4) dX14_output_4 fg_X14_137_3 (XW.cv w) (by first | rfl | assumption) ?_
  refine X_ivr (pc := 7) _ dX14_output_7 cv_X14_141_2 (XW.dL w) rfl (xbeginL_ok g w) nX2_begin (Nat.le_of_ble_eq_true rfl) (Nat.le_of_ble_eq_true rfl) (Nat.le_of_ble_eq_true rfl) (Nat.le_of_ble_eq_true rfl) (fun r1 h1 q1 => ?_)
  obtain ⟨rfl, d1⟩ := q1
  refine X_astore (pc := 10) (L' := [(5, .ref _), (0, .ref _), (1, .ref _), (2, .int _), (3, .ref _), (4, .int _)]) dX14_output_10 (Nat.le_of_ble_eq_true rfl) rfl ?_
  refine X_aload (pc := 12) 0 dX14_output_12 rfl ?_
  refine X_bipush (pc := 14) (x := 98) dX14_output_14 (by decide) ?_
  refine X_ivr (pc := 16) _ dX14_output_16 cv_X14_144_2 (XW.dL d1.1) rfl (xtwoL_ok g d1 (n := 98) (by decide) (by decide)) nX2_two (Nat.le_of_ble_eq_true rfl) (Nat.le_of_ble_eq_true rfl) (Nat.le_of_ble_eq_true rfl) (Nat.le_of_ble_eq_true rfl) (fun r2 h2 q2 => ?_)
  obtain ⟨rfl, d2⟩ := q2
  refine X_aload_n (pc := 19) 2 dX14_output_19 rfl rfl ?_
  refine X_iload_n (pc := 20) 3 dX14_output_20 rfl rfl ?_
  refine X_bipush (pc := 21) (x := 98) dX14_output_21 (by decide) ?_
  refine X_ivr (pc := 23) _ dX14_output_23 cv_X14_113_2 (XW.dL d2.1) rfl (xputsL_ok g d2 (n := 98) hki (by omega) hBi hli (by rw [l0]; decide)) nX2_put (Nat.le_of_ble_eq_true rfl) (Nat.le_of_ble_eq_true rfl) (Nat.le_of_ble_eq_true rfl) (Nat.le_of_ble_eq_true rfl) (fun r3 h3 q3 => ?_)
  obtain ⟨rfl, d3⟩ := q3
  have l3 : ([] ++ [tb (98 / 256), tb 98] ++ sub (S ki) fr 98).length = 100 := by rw [List.length_append, sub_len, l0]
  refine X_bipush (pc := 26) (x := 49) dX14_output_26 (by decide) ?_
  refine X_ivr (pc := 28) _ dX14_output_28 cv_X14_144_2 (XW.dL d3.1) rfl (xtwoL_ok g d3 (n := 49) (by decide) (by rw [l3]; decide)) nX2_two (Nat.le_of_ble_eq_true rfl) (Nat.le_of_ble_eq_true rfl) (Nat.le_of_ble_eq_true rfl) (Nat.le_of_ble_eq_true rfl) (fun r4 h4 q4 => ?_)
  obtain ⟨rfl, d4⟩ := q4
  have l4 : ([] ++ [tb (98 / 256), tb 98] ++ sub (S ki) fr 98 ++ [tb (49 / 256), tb 49]).length = 102 := by rw [List.length_append, l3]; rfl
  refine X_aload_n (pc := 31) 1 dX14_output_31 rfl rfl ?_
  refine X_getfield (pc := 32) dX14_output_32 fg_X14_34_9 (o.ob d4.1) (by first | rfl | assumption) ?_
  refine X_iconst (pc := 35) (x := 0) dX14_output_35 (by decide) ?_
  refine X_bipush (pc := 36) (x := 49) dX14_output_36 (by decide) ?_
  refine X_ivr (pc := 38) _ dX14_output_38 cv_X14_113_2 (XW.dL d4.1) rfl (xputsL_ok g d4 (ks := B + 9) (fr := 0) (n := 49) o.to (by decide) hBe (by rw [hel]; decide) (by rw [l4]; decide)) nX2_put (Nat.le_of_ble_eq_true rfl) (Nat.le_of_ble_eq_true rfl) (Nat.le_of_ble_eq_true rfl) (Nat.le_of_ble_eq_true rfl) (fun r5 h5 q5 => ?_)
  obtain ⟨rfl, d5⟩ := q5
  rw [sub_all hel] at d5
  have l5 : ([] ++ [tb (98 / 256), tb 98] ++ sub (S ki) fr 98 ++ [tb (49 / 256), tb 49] ++ S (B + 9)).length = 151 := by rw [List.length_append, l4, hel]
  refine X_ldcS (pc := 41) (j := 13) dX14_output_41 rfl (fun tx_41 vx_41 ht_41 => ?_)
  refine X_ivr (pc := 43) _ dX14_output_43 cv_X14_150_2 (XW.dL d5.1) rfl (wordL_ok g d5 ht_41 (c7_all (by decide)) (by rw [l5, e8]; decide)) nX2_word (Nat.le_of_ble_eq_true rfl) (Nat.le_of_ble_eq_true rfl) (Nat.le_of_ble_eq_true rfl) (Nat.le_of_ble_eq_true rfl) (fun r6 h6 q6 => ?_)
  obtain ⟨rfl, d6⟩ := q6
  have l6 : ([] ++ [tb (98 / 256), tb 98] ++ sub (S ki) fr 98 ++ [tb (49 / 256), tb 49] ++ S (B + 9) ++ wrd (chars "Finalize")).length = 159 := by rw [List.length_append, l5, wrd_len, e8]
  refine X_pop (pc := 46) dX14_output_46 rfl ?_
  refine X_aload (pc := 47) 0 dX14_output_47 rfl ?_
  refine X_ivr (pc := 49) _ dX14_output_49 cv_X14_158_2 (XW.dL d6.1) rfl (endL_ok g d6 (by rw [l6]; decide)) nX2_end (Nat.le_of_ble_eq_true rfl) (Nat.le_of_ble_eq_true rfl) (Nat.le_of_ble_eq_true rfl) (Nat.le_of_ble_eq_true rfl) (fun r7 h7 q7 => ?_)
  obtain ⟨rfl, F7, f7, w7⟩ := q7
  rw [show sha384 ([] ++ [tb (98 / 256), tb 98] ++ sub (S ki) fr 98 ++ [tb (49 / 256), tb 49] ++ S (B + 9) ++ wrd (chars "Finalize")) = outL (sub (S ki) fr 98) (S (B + 9)) from rfl] at w7
  have hol := outL_len (sub (S ki) fr 98) (S (B + 9))
  generalize outL (sub (S ki) fr 98) (S (B + 9)) = oo at *
  obtain ⟨f8, c8, p8, -⟩ := w7.s 8 (w7.k 8 (by decide))
  obtain ⟨ft, ct, pt, lt⟩ := w7.s kt hkt
  refine X_iconst (pc := 52) (x := 0) dX14_output_52 (by decide) ?_
  refine X_aload_n (pc := 53) 4 dX14_output_53 rfl rfl ?_
  refine X_iload (pc := 54) 5 dX14_output_54 rfl ?_
  refine X_bipush (pc := 56) (x := 48) dX14_output_56 (by decide) ?_
  refine X_copyI (pc := 58) (0) (at') (48) dX14_output_58 q810 (Or.inr rfl) c8 ct rfl rfl rfl (by omega) (by omega) ⟨by omega, by omega⟩ (Nat.le_of_ble_eq_true rfl) (Nat.le_of_ble_eq_true rfl) ?_
  have w8 := w7.cpy (ks := 8) (ns := 48) (sN := 0) (dN := at') (n := 48) hkt p8 pt (by rw [up_ne hkt8]; exact hat) (by rw [up_same, hol]; decide) ha2
  rw [up_same, up_ne hkt8, sub_all hol] at w8
  refine X_return (pc := 61) dX14_output_61 rfl (Nat.le_of_ble_eq_true rfl) (Nat.le_of_ble_eq_true rfl) ?_
  exact ⟨rfl, F7, f7, w8⟩
set_option maxHeartbeats 4000000 in
theorem isRightX_ok (g : GX) (w : XW kd A X R S O F h) (o : ObK kd A O B lv) (xb : XB R) (hB56 : IsB (S 56)) (hl : 146 ≤ (S 56).length) :
    MT g MX14_isRight ({ frames := 10, cells := 4, slots := 256, locals := 219 } : Room) [.ref (A B), .ref (A 56), .int 0, .ref (A 56), .int 98] h
      (TW (A 50) (RI fun r h' => mP (R (B + 2)) (h2p (sub (S 56) 0 98)) ≠ none ∧ ((r = 1 ∧ outB (sub (S 56) 0 98) (mP (R (B + 2)) (h2p (sub (S 56) 0 98))) = sub (S 56) 98 48) ∨ (r = 0 ∧ outB (sub (S 56) 0 98) (mP (R (B + 2)) (h2p (sub (S 56) 0 98))) ≠ sub (S 56) 98 48)) ∧ ∃ R' S' F', FrO B R R' S S' F F' ∧ XW kd A X R' S' O F' h')
        (fun h' => mP (R (B + 2)) (h2p (sub (S 56) 0 98)) = none ∧ BadO kd A X R S O F B h')) := by
  refine MT.of (by decide) (Nat.le_of_ble_eq_true rfl) ?_
  have hB := o.b
  have l56 : (S 56).length ≤ 1200 := (w.s 56 (w.k 56 (by decide))).choose_spec.2.2
  generalize hH : h2p (sub (S 56) 0 98) = H
  generalize hQ : TW (A 50) _ _ = Q
  refine X_aload_n (pc := 0) 0 dX14_isRight_0 rfl rfl ?_
  refine X_aload_n (pc := 1) 1 dX14_isRight_1 rfl rfl ?_
  refine X_iload_n (pc := 2) 2 dX14_isRight_2 rfl rfl ?_
  refine X_aload_n (pc := 3) 0 dX14_isRight_3 rfl rfl ?_
  refine X_getfield (pc := 4) dX14_isRight_4 fg_X14_42_9 (o.ob w) (by first | rfl | assumption) ?_
  refine X_ivv (pc := 7) _ dX14_isRight_7 cv_X14_126_9 (o.ob w) rfl (groupO_ok g w o (P := B + 10) (ks := 56) (ns := 1200) (fr := 0) o.pt (by omega) xb (w.k 56 (by decide)) (by decide) hB56 (by omega)) nX14_group (Nat.le_of_ble_eq_true rfl) (Nat.le_of_ble_eq_true rfl) (Nat.le_of_ble_eq_true rfl) (Nat.le_of_ble_eq_true rfl) (fun h2 q2 => ?_)
  obtain ⟨R2, S2, F2, r2, s2, f2, v2, w2⟩ := q2
  rw [hH] at v2
  have xb2 : XB R2 := xb.fr fun j hj => r2 j (gpS_f (ecS_f (by omega) (by omega) (by omega) (by omega)) (by omega))
  have e2 : R2 (B + 2) = R (B + 2) := r2 _ (gpS_f (ecS_f (by omega) (by omega) (by omega) (by omega)) (by omega))
  have ok2 : OpE kd A X R2 S2 O F2 (tmS (B + 22)) (A (B + 2)) 12 (R (B + 2)) := by
    rw [← e2]
    exact OpE.g (mv := qP) (St.q o.se) (tmS_f (ecS_f (by omega) (by omega) (by omega) (by omega)) (by omega))
  have onH : OnP H := by rw [← hH]; exact h2p_on _
  refine X_aload_n (pc := 10) 0 dX14_isRight_10 rfl rfl ?_
  refine X_getfield (pc := 11) dX14_isRight_11 fg_X14_58_9 (o.ob w2) (by first | rfl | assumption) ?_
  refine X_aload_n (pc := 14) 0 dX14_isRight_14 rfl rfl ?_
  refine X_getfield (pc := 15) dX14_isRight_15 fg_X14_9_9 (o.ob w2) (by first | rfl | assumption) ?_
  refine X_aload_n (pc := 18) 0 dX14_isRight_18 rfl rfl ?_
  refine X_getfield (pc := 19) dX14_isRight_19 fg_X14_42_9 (o.ob w2) (by first | rfl | assumption) ?_
  refine X_aload_n (pc := 22) 0 dX14_isRight_22 rfl rfl ?_
  refine X_getfield (pc := 23) dX14_isRight_23 fg_X14_52_9 (o.ob w2) (by first | rfl | assumption) ?_
  refine X_ivv (pc := 26) _ dX14_isRight_26 cv_X14_81_3 (XW.cv w2) rfl (times_ok g w2 (P := B + 22) (Q := B + 10) o.wk o.pt (by omega) (by omega) (by omega) (by omega) xb2 ok2 onH v2) nX5_times (Nat.le_of_ble_eq_true rfl) (Nat.le_of_ble_eq_true rfl) (Nat.le_of_ble_eq_true rfl) (Nat.le_of_ble_eq_true rfl) (fun h3 q3 => ?_)
  obtain ⟨R3, r3, v3, w3'⟩ := q3
  have w3 := w3'.nilS o.to
  generalize hD : mP (R (B + 2)) H = D at *
  have fr3 : ∀ j, obR B j = false → R3 j = R j := fun j hj => by
    have a := obR_ne hj
    rw [r3 j (tmS_f (ecS_f (by omega) (by omega) (by omega) (by omega)) (by omega)), r2 j (gpS_f (ecS_f (by omega) (by omega) (by omega) (by omega)) (by omega))]
  have s3 : ∀ j, obS B j = false → up S2 (B + 9) [] j = S j := fun j hj => by
    have a := obS_ne hj
    rw [up_ne (by omega), s2 j a.1]
  have l9 : (up S2 (B + 9) [] (B + 9)).length = 0 := by rw [up_same]; rfl
  refine X_aload_n (pc := 29) 0 dX14_isRight_29 rfl rfl ?_
  refine X_aload_n (pc := 30) 0 dX14_isRight_30 rfl rfl ?_
  refine X_getfield (pc := 31) dX14_isRight_31 fg_X14_52_9 (o.ob w3) (by first | rfl | assumption) ?_
  refine X_aload_n (pc := 34) 0 dX14_isRight_34 rfl rfl ?_
  refine X_getfield (pc := 35) dX14_isRight_35 fg_X14_34_9 (o.ob w3) (by first | rfl | assumption) ?_
  refine X_iconst (pc := 38) (x := 0) dX14_isRight_38 (by decide) ?_
  rw [show (0 : Int32) = nI (up S2 (B + 9) [] (B + 9)).length by rw [l9]; rfl]
  refine X_ivvT (pc := 39) _ dX14_isRight_39 cv_X14_129_9 (o.ob w3) rfl (writeO_ok g w3 o (P := B + 22) (kt := B + 9) (nt := 49) o.wk (by omega) o.to (by decide) (by rw [l9]; decide) v3) nX14_write (Nat.le_of_ble_eq_true rfl) (Nat.le_of_ble_eq_true rfl) (Nat.le_of_ble_eq_true rfl) (Nat.le_of_ble_eq_true rfl) (fun h4 q4 => ?_) (fun hx qx => ?_)
  · obtain ⟨hDn, R4, r4, w4⟩ := q4
    rw [l9]
    rw [up_up', up_same, List.nil_append] at w4
    have fr4 : ∀ j, obR B j = false → R4 j = R j := fun j hj => by
      have a := obR_ne hj
      rw [r4 j (cvS_f (by omega)), fr3 j hj]
    have hel : (en D).length = 49 := en_l49 hDn
    have e56 : up S2 (B + 9) (en D) 56 = S 56 := by rw [up_ne (by omega), s2 56 hX56]
    have w5 := w4.nilS o.sd
    refine X_aload_n (pc := 42) 0 dX14_isRight_42 rfl rfl ?_
    refine X_aload_n (pc := 43) 1 dX14_isRight_43 rfl rfl ?_
    refine X_iload_n (pc := 44) 2 dX14_isRight_44 rfl rfl ?_
    refine X_aload_n (pc := 45) 0 dX14_isRight_45 rfl rfl ?_
    refine X_getfield (pc := 46) dX14_isRight_46 fg_X14_28_9 (o.ob w5) (by first | rfl | assumption) ?_
    refine X_iconst (pc := 49) (x := 0) dX14_isRight_49 (by decide) ?_
    refine X_ivv (pc := 50) _ dX14_isRight_50 cv_X14_219_9 (o.ob w5) rfl (outputX_ok g w5 o (ki := 56) (ni := 1200) (fr := 0) (kt := B + 7) (nt := 48) (at' := 0) (w5.k 56 (by decide)) (by decide) (by decide) (by rw [up_ne (by omega), e56]; exact hB56) (by rw [up_ne (by omega), e56]; omega) (by rw [up_ne (by omega), up_same]; exact hel) (by rw [up_ne (by omega), up_same]; exact en_B' _) o.sd (by decide) (by omega) (Nat.zero_le _) (by decide)) nX14_output (Nat.le_of_ble_eq_true rfl) (Nat.le_of_ble_eq_true rfl) (Nat.le_of_ble_eq_true rfl) (Nat.le_of_ble_eq_true rfl) (fun h6 q6 => ?_)
    obtain ⟨F6, f6, w6⟩ := q6
    have e56' : up (up S2 (B + 9) (en D)) (B + 7) [] 56 = S 56 := by rw [up_ne (by omega), e56]
    have e9' : up (up S2 (B + 9) (en D)) (B + 7) [] (B + 9) = en D := by rw [up_ne (by omega), up_same]
    rw [e56', e9', List.take_zero, List.nil_append, show outL (sub (S 56) 0 98) (en D) = outB (sub (S 56) 0 98) D from rfl] at w6
    have hol : (outB (sub (S 56) 0 98) D).length = 48 := sha384_len _
    generalize outB (sub (S 56) 0 98) D = oo at *
    generalize hS6 : up (up (up (up S2 (B + 9) (en D)) (B + 7) []) 8 oo) (B + 7) oo = S6 at w6
    have s6 : ∀ j, obS B j = false → S6 j = S j := fun j hj => by
      have a := obS_ne hj
      have h8 : j ≠ 8 := fun z => by rw [z] at a; exact absurd a.1 (by decide)
      rw [← hS6, up_ne (by omega), up_ne h8, up_ne (by omega), up_ne (by omega), s2 j a.1]
    have f6' : ∀ j, j ≠ 22 → j ≠ 23 → j ≠ 24 → F6 j = F j := fun j a b _ => (f6 j a b).trans (f2 j a b)
    have s7 : S6 (B + 7) = oo := by rw [← hS6, up_same]
    have s56 : S6 56 = S 56 := s6 56 (by unfold obS; simp only [Bool.or_eq_false_iff, decide_eq_false_iff_not, beq_eq_false_iff_ne]; exact ⟨hX56, by decide, by omega, by omega⟩)
    have loop : ∀ m i, i + m = 48 → ∀ v : Int32, Agr (fun j => oo.getD j 0 = (S 56).getD (98 + j) 0) i 48 v →
        XX g MX14_isRight ({ frames := 10, cells := 4, slots := 256, locals := 219 } : Room) Q 4 256 59 [(6, .int (nI i)), (5, .int v), (0, .ref (A B)), (1, .ref (A 56)), (2, .int 0), (3, .ref (A 56)), (4, .int 98)] [] h6 := by
      intro m
      induction m with
      | zero =>
        intro i hi v hv
        have e : i = 48 := by omega
        subst e
        refine X_iload (pc := 59) 0 dX14_isRight_59 rfl ?_
        refine X_bipush (pc := 61) (x := 48) dX14_isRight_61 (by decide) ?_
        refine X_cge (a := 48) (b := 48) (pc := 63) 101 dX14_isRight_63 (by decide) (by omega) (by omega) (fun _ => ?_) (fun c => absurd c (by omega))
        refine X_iload (pc := 101) 1 dX14_isRight_101 rfl ?_
        subst hQ
        rcases hv with ⟨rfl, hv⟩ | ⟨rfl, hv⟩
        · refine X_zreturn (pc := 103) dX14_isRight_103 rfl (by first | exact Or.inl rfl | exact Or.inr rfl | assumption | exact zo_if) (Nat.le_of_ble_eq_true rfl) (Nat.le_of_ble_eq_true rfl) ?_
          exact Or.inl ⟨1, rfl, hDn, Or.inl ⟨rfl, (sub_eq_l hol).mpr hv⟩, R4, S6, F6, ⟨fr4, s6, f6'⟩, w6⟩
        · refine X_zreturn (pc := 103) dX14_isRight_103 rfl (by first | exact Or.inl rfl | exact Or.inr rfl | assumption | exact zo_if) (Nat.le_of_ble_eq_true rfl) (Nat.le_of_ble_eq_true rfl) ?_
          refine Or.inl ⟨0, rfl, hDn, Or.inr ⟨rfl, fun z => ?_⟩, R4, S6, F6, ⟨fr4, s6, f6'⟩, w6⟩
          obtain ⟨j, hj, hn⟩ := hv
          exact hn ((sub_eq_l hol).mp z j hj)
      | succ m ih =>
        intro i hi v hv
        obtain ⟨fs, cs, ps, -⟩ := w6.s (B + 7) o.sd
        obtain ⟨ft, ct, pt, -⟩ := w6.s 56 (w6.k 56 (by decide))
        rw [s7] at ps
        rw [s56] at pt
        have ci : (nI i).toNatClampNeg = i := nI_clamp (by omega)
        have bi : vp_in (nI i) 48 := vp_in_nI (by omega) (by omega)
        have ca : (nI (98 + i)).toNatClampNeg = 98 + i := nI_clamp (by omega)
        have ba : vp_in (nI (98 + i)) 1200 := vp_in_nI (by omega) (by omega)
        have nxt : ∀ v' : Int32, Agr (fun j => oo.getD j 0 = (S 56).getD (98 + j) 0) (i + 1) 48 v' → XX g MX14_isRight ({ frames := 10, cells := 4, slots := 256, locals := 219 } : Room) Q 4 256 93 [(6, .int (nI i)), (5, .int v), (0, .ref (A B)), (1, .ref (A 56)), (2, .int 0), (3, .ref (A 56)), (4, .int 98)] [.int v'] h6 := by
          intro v' hv'
          refine X_istore (pc := 93) (L' := [(5, .int _), (6, .int _), (0, .ref _), (1, .ref _), (2, .int _), (3, .ref _), (4, .int _)]) dX14_isRight_93 (Nat.le_of_ble_eq_true rfl) rfl ?_
          refine X_iinc (pc := 95) (L' := [(6, .int (_ + 1)), (5, .int _), (0, .ref _), (1, .ref _), (2, .int _), (3, .ref _), (4, .int _)]) 1 dX14_isRight_95 rfl rfl (Nat.le_of_ble_eq_true rfl) rfl ?_
          refine X_goto (pc := 98) 59 dX14_isRight_98 (by decide) ?_
          rw [show nI i + 1 = nI (i + 1) from nI_add i 1]
          exact ih (i + 1) (by omega) v' hv'
        refine X_iload (pc := 59) 0 dX14_isRight_59 rfl ?_
        refine X_bipush (pc := 61) (x := 48) dX14_isRight_61 (by decide) ?_
        refine X_cge (b := 48) (pc := 63) 101 dX14_isRight_63 (by decide) (by omega) (by omega) (fun c => absurd c (by omega)) (fun _ => ?_)
        refine X_iload (pc := 66) 1 dX14_isRight_66 rfl ?_
        rcases hv with ⟨rfl, hv⟩ | ⟨rfl, hv⟩
        · refine X_if_eq (pc := 68) 92 dX14_isRight_68 (by decide) (fun c => absurd c (by decide)) (fun _ => ?_)
          refine X_aload_n (pc := 71) 2 dX14_isRight_71 rfl rfl ?_
          refine X_getfield (pc := 72) dX14_isRight_72 fg_X14_28_9 (o.ob w6) (by first | rfl | assumption) ?_
          refine X_iload (pc := 75) 0 dX14_isRight_75 rfl ?_
          refine X_baload (pc := 77) dX14_isRight_77 cs bi ?_
          refine X_aload_n (pc := 78) 5 dX14_isRight_78 rfl rfl ?_
          refine X_iload (pc := 79) 6 dX14_isRight_79 rfl ?_
          refine X_iload (pc := 81) 0 dX14_isRight_81 rfl ?_
          refine X_iadd (pc := 83) dX14_isRight_83 ?_
          rw [ci, ps i (by omega), show (98 : Int32) + nI i = nI (98 + i) from nI_add 98 i]
          refine X_baload (pc := 84) dX14_isRight_84 ct ba ?_
          rw [ca, pt _ (by omega)]
          by_cases ce : oo.getD i 0 = (S 56).getD (98 + i) 0
          · refine X_icmp_ne (pc := 85) 92 dX14_isRight_85 (by decide) (fun c => absurd ce c) (fun _ => ?_)
            refine X_iconst (pc := 88) (x := 1) dX14_isRight_88 (by decide) ?_
            refine X_goto (pc := 89) 93 dX14_isRight_89 (by decide) ?_
            refine nxt 1 (Or.inl ⟨rfl, fun j hj => ?_⟩)
            by_cases ej : j = i
            · rw [ej]; exact ce
            · exact hv j (by omega)
          · refine X_icmp_ne (pc := 85) 92 dX14_isRight_85 (by decide) (fun _ => ?_) (fun c => absurd c ce)
            refine X_iconst (pc := 92) (x := 0) dX14_isRight_92 (by decide) ?_
            exact nxt 0 (Or.inr ⟨rfl, i, by omega, ce⟩)
        · refine X_if_eq (pc := 68) 92 dX14_isRight_68 (by decide) (fun _ => ?_) (fun c => absurd rfl c)
          refine X_iconst (pc := 92) (x := 0) dX14_isRight_92 (by decide) ?_
          exact nxt 0 (Or.inr ⟨rfl, hv⟩)
    refine X_iconst (pc := 53) (x := 1) dX14_isRight_53 (by decide) ?_
    refine X_istore (pc := 54) (L' := [(5, .int _), (0, .ref _), (1, .ref _), (2, .int _), (3, .ref _), (4, .int _)]) dX14_isRight_54 (Nat.le_of_ble_eq_true rfl) rfl ?_
    refine X_iconst (pc := 56) (x := 0) dX14_isRight_56 (by decide) ?_
    refine X_istore (pc := 57) (L' := [(6, .int _), (5, .int _), (0, .ref _), (1, .ref _), (2, .int _), (3, .ref _), (4, .int _)]) dX14_isRight_57 (Nat.le_of_ble_eq_true rfl) rfl ?_
    exact loop 48 0 (by omega) 1 (Or.inl ⟨rfl, fun j hj => absurd hj (Nat.not_lt_zero j)⟩)
  · obtain ⟨hDn, R4, r4, w4⟩ := qx
    subst hQ
    refine XT_out (fun _ hq => absurd hq List.not_mem_nil) (Nat.le_of_ble_eq_true rfl) (Nat.le_of_ble_eq_true rfl) (Or.inr ⟨rfl, hDn, R4, _, _, ⟨fun j hj => ?_, s3, fun j a b c => (up_ne c).trans (f2 j a b)⟩, up_same _ _ _, w4⟩)
    have a := obR_ne hj
    rw [r4 j (cvS_f (by omega)), fr3 j hj]
end XOb3
