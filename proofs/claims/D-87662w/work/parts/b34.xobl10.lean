set_option maxRecDepth 100000
/-! VeilMint's keys of the first type: finishing, from the beginning -/
section XFin4
variable {kd kd' : Nat → KD} {A A' : Nat → Nat} {X : AH} {R R' : Nat → Nat} {S S' : Nat → List Int32} {O O' : Nat → AC} {F F' : Nat → Int32} {h : AH} {B : Nat} {lv : Int32} {Q : Outcome → AH → Prop} {T : List Int32} {sk a many : Nat} {kp : Nat → Nat} {inp : Nat → List Int32} {g : GX}
set_option maxHeartbeats 16000000 in
theorem finHead (w : XW kd A X R S O F h) (o : ObK kd A O B lv) (s : FinS T sk kp inp a many B) (f : FinH kd A O R S F T sk kp inp a many B) (kF : ∀ j, 81 ≤ j → j ≤ 87 → (kd j).1 = 0) (k80 : kd 80 = (6, 2, 49 * many)) (s80 : S 80 = []) (K : FinK Q kd A X O R S F T sk kp inp many B) :
    XX g MX14_finishes ({ frames := 10, cells := 80, slots := 5000, locals := 225 } : Room) Q 1 392 11 [(7, .int (nI 0)), (6, .ref (A 80)), (0, .ref (A B)), (1, .ref (A 55)), (2, .int (nI a)), (3, .int (nI many)), (4, .ref (A 56)), (5, .ref (A 58))] [] h := by
  have s' := s
  obtain ⟨hBT, ⟨hlT, hlT2⟩, ⟨hm, ham, hB, hB2⟩, hpk, hin⟩ := s
  have loop : ∀ m i, i + m = many → ∀ (R1 : Nat → Nat) (S1 : Nat → List Int32) (F1 : Nat → Int32) (h1 : AH), XW kd A X R1 S1 O F1 h1 → FrO B R R1 S S1 F F1 → (∀ j, j < i → finE T j ≠ none) → S1 80 = catE (finM kp inp) i →
      XX g MX14_finishes ({ frames := 10, cells := 80, slots := 5000, locals := 225 } : Room) Q (1 + 5 * i) (392 + 320 * i) 11 [(7, .int (nI i)), (6, .ref (A 80)), (0, .ref (A B)), (1, .ref (A 55)), (2, .int (nI a)), (3, .int (nI many)), (4, .ref (A 56)), (5, .ref (A 58))] [] h1 := by
    intro m
    induction m with
    | zero =>
      intro i hi R1 S1 F1 h1 w1 fr1 hP s80
      have e : i = many := by omega
      subst e
      refine X_iload (pc := 11) 0 dX14_finishes_11 rfl ?_
      refine X_iload_n (pc := 13) 5 dX14_finishes_13 rfl rfl ?_
      refine X_cge (pc := 14) 95 dX14_finishes_14 (by decide) (by omega) (by omega) (fun _ => ?_) (fun c => absurd c (by omega))
      refine X_bipush (pc := 95) (x := 49) dX14_finishes_95 (by decide) ?_
      refine X_iload_n (pc := 97) 5 dX14_finishes_97 rfl rfl ?_
      refine X_imul (pc := 98) dX14_finishes_98 ?_
      rw [show (49 : Int32) * nI i = nI (49 * i) from pk_mul 49 i]
      refine X_istore (pc := 99) (L' := [(7, .int _), (6, .ref _), (0, .ref _), (1, .ref _), (2, .int _), (3, .int _), (4, .ref _), (5, .ref _)]) dX14_finishes_99 (Nat.le_of_ble_eq_true rfl) rfl ?_
      refine X_bipush (pc := 101) (x := 12) dX14_finishes_101 (by decide) ?_
      refine X_new_int (12) (pc := 103) dX14_finishes_103 rfl (by decide) (by dsimp only; omega) (by dsimp only; omega) (fun q hq => ?_)
      obtain ⟨kd2, A2, e81, a81, ng2, gw2, w2⟩ := w1.growN (n := 12) hq (kF 81 (by decide) (by decide)) (freeT (by decide) (by decide))
      refine X_astore (pc := 105) (L' := [(8, .ref _), (7, .int _), (6, .ref _), (0, .ref _), (1, .ref _), (2, .int _), (3, .int _), (4, .ref _), (5, .ref _)]) dX14_finishes_105 (Nat.le_of_ble_eq_true rfl) rfl ?_
      refine X_bipush (pc := 107) (x := 12) dX14_finishes_107 (by decide) ?_
      refine X_new_int (12) (pc := 109) dX14_finishes_109 rfl (by decide) (by dsimp only; omega) (by dsimp only; omega) (fun q2 hq2 => ?_)
      obtain ⟨kd3, A3, e82, a82, ng3, gw3, w3⟩ := w2.growN (k := 82) (n := 12) hq2 (by rw [(ng2 82 (by decide)).1]; exact kF 82 (by decide) (by decide)) (freeT (by decide) (by decide))
      have G3 : Gw T80 kd A O kd3 A3 O := gw3 _ _ _ _ (gw2 _ _ _ _ f.1 rfl) rfl
      have aa : ∀ j, j ≠ 81 → j ≠ 82 → A j = A3 j := fun j h1 h2 => by rw [(ng3 j h2).2, (ng2 j h1).2]
      have kk : ∀ j, j ≠ 81 → j ≠ 82 → kd3 j = kd j := fun j h1 h2 => by rw [(ng3 j h2).1, (ng2 j h1).1]
      have a81' : A3 81 = q := by rw [(ng3 81 (by decide)).2]; exact a81
      have fr3 : FrO B R (up (up R1 81 0) 82 0) S S1 F F1 := fr1.trans ⟨fun j hj => by have a := obR_ne hj; rw [up_ne (by omega), up_ne (by omega)], fun _ _ => rfl, fun _ _ _ _ => rfl⟩
      generalize hset (hset h1 q _) q2 _ = h3 at w3 ⊢
      refine X_astore (pc := 111) (L' := [(9, .ref _), (8, .ref _), (7, .int _), (6, .ref _), (0, .ref _), (1, .ref _), (2, .int _), (3, .int _), (4, .ref _), (5, .ref _)]) dX14_finishes_111 (Nat.le_of_ble_eq_true rfl) rfl ?_
      rw [← a81', ← a82, aa 80 (by decide) (by decide), aa B (by omega) (by omega), aa 55 (by decide) (by decide), aa 56 (by decide) (by decide), aa 58 (by decide) (by decide)]
      exact finMid w3 (o.gw G3 fun j hj => T80_f (by omega)) s' ((f.gw s' G3).fr s' fr3) hP (fun j h1 h2 => by rw [kk j (by omega) (by omega)]; exact kF j (by omega) h2) (by rw [kk 80 (by decide) (by decide)]; exact k80) (by rw [(ng3 81 (by decide)).1]; exact e81) e82 s80 (K.tr G3 fr3) (by omega) (by omega)
    | succ m ih =>
      intro i hi R1 S1 F1 h1 w1 fr1 hP s80
      have f1 := f.fr s' fr1
      obtain ⟨-, xb1, e56, e6, e31, fa⟩ := f1
      obtain ⟨⟨op, ak⟩, ekp, ein⟩ := fa i (by omega)
      obtain ⟨hk1, hk2, hl1, hb1, hM1⟩ := hin i (by omega)
      refine X_iload (pc := 11) 0 dX14_finishes_11 rfl ?_
      refine X_iload_n (pc := 13) 5 dX14_finishes_13 rfl rfl ?_
      refine X_cge (pc := 14) 95 dX14_finishes_14 (by decide) (by omega) (by omega) (fun c => absurd c (by omega)) (fun _ => ?_)
      refine X_aload_n (pc := 17) 2 dX14_finishes_17 rfl rfl ?_
      refine X_aload_n (pc := 18) 3 dX14_finishes_18 rfl rfl ?_
      refine X_iload_n (pc := 19) 4 dX14_finishes_19 rfl rfl ?_
      refine X_iload (pc := 20) 0 dX14_finishes_20 rfl ?_
      refine X_iadd (pc := 22) dX14_finishes_22 ?_
      rw [show nI a + nI i = nI (a + i) from nI_add a i]
      refine X_aaload (pc := 23) dX14_finishes_23 (XW.asks w1) (fun _ => rfl) (vp_in_nI (by omega) (by omega)) ?_
      rw [ask_at (A := A) (F := F1) (by omega) (by omega)]
      generalize hC : 1000 + 10 * (a + i) = C at *
      have hC2 : 1000 ≤ C := by omega
      refine X_getfield (pc := 24) dX14_finishes_24 fg_X14_200_8 (ak.c w1) (by first | rfl | assumption) ?_
      refine X_iconst (pc := 27) (x := 0) dX14_finishes_27 (by decide) ?_
      refine X_aload_n (pc := 28) 2 dX14_finishes_28 rfl rfl ?_
      refine X_getfield (pc := 29) dX14_finishes_29 fg_X14_42_9 (o.ob w1) (by first | rfl | assumption) ?_
      refine X_ivv (pc := 32) _ dX14_finishes_32 cv_X14_126_9 (o.ob w1) rfl (groupO_ok g w1 o (P := B + 10) (ks := C + 1) (ns := 98) (fr := 0) o.pt (by omega) xb1 ak.2.2.1 (by decide) (by rw [ein]; exact hb1) (by rw [ein, hl1]; decide)) nX14_group (Nat.le_of_ble_eq_true rfl) (Nat.le_of_ble_eq_true rfl) (by dsimp only; omega) (by dsimp only; omega) (fun h2 q2 => ?_)
      rw [ein, sub_all hl1] at q2
      obtain ⟨R2, S2, F2, r2, s2, f2, v2, w2⟩ := q2
      have fr2 : FrO B R R2 S S2 F F2 := fr1.trans ⟨fun j hj => r2 j (by have a := obR_ne hj; exact gpS_f (ecS_f (by omega) (by omega) (by omega) (by omega)) (by omega)), fun j hj => s2 j (obS_ne hj).1, fun j a b _ => f2 j a b⟩
      have xb2 : XB R2 := f.2.1.ob hB fr2.1
      have ek2 : R2 (C + 2) = kp i := by rw [r2 _ (gpS_f (ecS_f (by omega) (by omega) (by omega) (by omega)) (by omega))]; exact ekp
      have e312 : a + many ≤ (F2 31).toNatClampNeg := by rw [f2 31 (by decide) (by decide)]; exact e31
      have ok2 : OpE kd A X R2 S2 O F2 (tmS (B + 22)) (A (C + 2)) 12 (kp i) := by
        rw [← ek2]
        exact OpE.g (mv := qP) (St.q ak.2.2.2) (tmS_f (ecS_f (by omega) (by omega) (by omega) (by omega)) (by omega))
      refine X_aload_n (pc := 35) 2 dX14_finishes_35 rfl rfl ?_
      refine X_getfield (pc := 36) dX14_finishes_36 fg_X14_58_9 (o.ob w2) (by first | rfl | assumption) ?_
      refine X_aload_n (pc := 39) 3 dX14_finishes_39 rfl rfl ?_
      refine X_iload_n (pc := 40) 4 dX14_finishes_40 rfl rfl ?_
      refine X_iload (pc := 41) 0 dX14_finishes_41 rfl ?_
      refine X_iadd (pc := 43) dX14_finishes_43 ?_
      rw [show nI a + nI i = nI (a + i) from nI_add a i]
      refine X_aaload (pc := 44) dX14_finishes_44 (XW.asks w2) (fun _ => rfl) (vp_in_nI (by omega) (by omega)) ?_
      rw [ask_at (A := A) (F := F2) (by omega) (by omega), hC]
      refine X_getfield (pc := 45) dX14_finishes_45 fg_X14_205_8 (ak.c w2) (by first | rfl | assumption) ?_
      refine X_aload_n (pc := 48) 2 dX14_finishes_48 rfl rfl ?_
      refine X_getfield (pc := 49) dX14_finishes_49 fg_X14_42_9 (o.ob w2) (by first | rfl | assumption) ?_
      refine X_aload_n (pc := 52) 2 dX14_finishes_52 rfl rfl ?_
      refine X_getfield (pc := 53) dX14_finishes_53 fg_X14_52_9 (o.ob w2) (by first | rfl | assumption) ?_
      refine X_ivv (pc := 56) _ dX14_finishes_56 cv_X14_81_3 (XW.cv w2) rfl (times_ok g w2 (P := B + 22) (Q := B + 10) o.wk o.pt (by omega) (by omega) (by omega) (by omega) xb2 ok2 (h2p_on _) v2) nX5_times (Nat.le_of_ble_eq_true rfl) (Nat.le_of_ble_eq_true rfl) (by dsimp only; omega) (by dsimp only; omega) (fun h3 q3 => ?_)
      obtain ⟨R3, r3, v3, w3⟩ := q3
      have v3 : PtV R3 (B + 22) (finM kp inp i) := v3
      have fr3 : FrO B R R3 S S2 F F2 := fr2.trans ⟨fun j hj => r3 j (by have a := obR_ne hj; exact tmS_f (ecS_f (by omega) (by omega) (by omega) (by omega)) (by omega)), fun _ _ => rfl, fun _ _ _ _ => rfl⟩
      have s802 : S2 80 = catE (finM kp inp) i := by rw [s2 80 (hX_f (by decide))]; exact s80
      have l80 : (S2 80).length = 49 * i := by rw [s802]; exact catE_l i fun j hj => (hin j (by omega)).2.2.2.2
      refine X_aload_n (pc := 59) 2 dX14_finishes_59 rfl rfl ?_
      refine X_aload_n (pc := 60) 2 dX14_finishes_60 rfl rfl ?_
      refine X_getfield (pc := 61) dX14_finishes_61 fg_X14_52_9 (o.ob w3) (by first | rfl | assumption) ?_
      refine X_aload (pc := 64) 1 dX14_finishes_64 rfl ?_
      refine X_bipush (pc := 66) (x := 49) dX14_finishes_66 (by decide) ?_
      refine X_iload (pc := 68) 0 dX14_finishes_68 rfl ?_
      refine X_imul (pc := 70) dX14_finishes_70 ?_
      rw [show (49 : Int32) * nI i = nI (49 * i) from pk_mul 49 i, ← l80]
      refine X_ivvT (pc := 71) _ dX14_finishes_71 cv_X14_129_9 (o.ob w3) rfl (writeO_ok g w3 o (P := B + 22) (kt := 80) (nt := 49 * many) o.wk (by omega) k80 (by omega) (by rw [l80]; omega) v3) nX14_write (Nat.le_of_ble_eq_true rfl) (Nat.le_of_ble_eq_true rfl) (by dsimp only; omega) (by dsimp only; omega) (fun h4 q4 => ?_) (fun hx qx => absurd qx.1 hM1)
      obtain ⟨-, R4, r4, w4⟩ := q4
      have fr4 : FrO B R R4 S (up S2 80 (S2 80 ++ en (finM kp inp i))) F F2 := fr3.trans ⟨fun j hj => r4 j (cvS_f (obR_ne hj).1), fun j hj => up_ne (by have a := obS_ne hj; omega), fun _ _ _ _ => rfl⟩
      have xb4 : XB R4 := f.2.1.ob hB fr4.1
      have e564 : up S2 80 (S2 80 ++ en (finM kp inp i)) 56 = T := by rw [up_ne (by decide), s2 56 hX56]; exact e56
      refine X_aload_n (pc := 74) 2 dX14_finishes_74 rfl rfl ?_
      refine X_aload (pc := 75) 6 dX14_finishes_75 rfl ?_
      refine X_bipush (pc := 77) (x := 49) dX14_finishes_77 (by decide) ?_
      refine X_iload (pc := 79) 0 dX14_finishes_79 rfl ?_
      refine X_imul (pc := 81) dX14_finishes_81 ?_
      rw [show (49 : Int32) * nI i = nI (49 * i) from pk_mul 49 i]
      have rd5 := readO_ok g w4 o (P := B + 10) (kb := 56) (nb := 1200) (at' := 49 * i) o.pt (by omega) xb4 (w4.k 56 (by decide)) (by decide) (by rw [e564]; omega)
      rw [e564] at rd5
      refine X_aload_n (pc := 82) 2 dX14_finishes_82 rfl rfl ?_
      refine X_getfield (pc := 83) dX14_finishes_83 fg_X14_42_9 (o.ob w4) (by first | rfl | assumption) ?_
      refine X_ivvT (pc := 86) _ dX14_finishes_86 cv_X14_170_9 (o.ob w4) rfl (rd5) nX14_read (Nat.le_of_ble_eq_true rfl) (Nat.le_of_ble_eq_true rfl) (by dsimp only; omega) (by dsimp only; omega) (fun h5 q5 => ?_) (fun hx qx => XT_out (fun _ hq => absurd hq List.not_mem_nil) (by dsimp only; omega) (by dsimp only; omega) (by obtain ⟨z1, R', a1, a2⟩ := qx; exact K.2 kd A O R' _ _ hx f.1 ((fr4.trans ⟨fun j hj => a1 j (by have a := obR_ne hj; exact ecS_f (by omega) (by omega) (by omega) (by omega)), fun _ _ => rfl, fun _ _ _ _ => rfl⟩).why (-4)) (Or.inl ⟨i, by omega, z1⟩) (up_same _ _ _) a2))
      obtain ⟨hE, R5, r5, -, w5⟩ := q5
      have fr5 : FrO B R R5 S (up S2 80 (S2 80 ++ en (finM kp inp i))) F F2 := fr4.trans ⟨fun j hj => r5 j (by have a := obR_ne hj; exact ecS_f (by omega) (by omega) (by omega) (by omega)), fun _ _ => rfl, fun _ _ _ _ => rfl⟩
      refine X_iinc (pc := 89) (L' := [(7, .int (_ + 1)), (6, .ref _), (0, .ref _), (1, .ref _), (2, .int _), (3, .int _), (4, .ref _), (5, .ref _)]) 0 dX14_finishes_89 rfl rfl (Nat.le_of_ble_eq_true rfl) rfl ?_
      refine X_goto (pc := 92) 11 dX14_finishes_92 (by decide) ?_
      rw [show nI i + 1 = nI (i + 1) from nI_add i 1]
      refine XX.wide (k' := 1 + 5 * (i + 1)) (n' := 392 + 320 * (i + 1)) (by dsimp only; omega) (by dsimp only; omega) ?_
      refine ih (i + 1) (by omega) R5 _ F2 h5 w5 fr5 (fun j hj => ?_) (by rw [up_same, s802]; rfl)
      by_cases ej : j = i
      · rw [ej]; exact hE
      · exact hP j (by omega)
  exact loop many 0 (by omega) R S F h w (FrO.refl B R S F) (fun j hj => absurd hj (Nat.not_lt_zero j)) s80
theorem finishesX_ok (w : XW kd A X R S O F h) (o : ObK kd A O B lv) (s : FinS T sk kp inp a many B) (f : FinH kd A O R S F T sk kp inp a many B) (kF : ∀ j, 80 ≤ j → j < 100 → (kd j).1 = 0) :
    MT g MX14_finishes ({ frames := 10, cells := 80, slots := 5000, locals := 225 } : Room) [.ref (A B), .ref (A 55), .int (nI a), .int (nI many), .ref (A 56), .ref (A 58)] h
      (TW (A 50) (RV fun h' => ¬ FBad T sk kp inp many ∧ ∃ kd' A' O' R' S' F', Gw T80 kd A O kd' A' O' ∧ FrO B R R' S S' F F' ∧ S' 58 = finO T kp inp many ∧ XW kd' A' X R' S' O' F' h')
        (fun h' => FBad T sk kp inp many ∧ ∃ kd' A' O' R' S' F', Gw T80 kd A O kd' A' O' ∧ FrO B R R' S S' F F' ∧ F' 24 = -4 ∧ XW kd' A' X R' S' O' F' h')) := by
  refine MT.of (by decide) (Nat.le_of_ble_eq_true rfl) ?_
  obtain ⟨-, -, ⟨hm, ham, hB, hB2⟩, -, -⟩ := id s
  have K : FinK (TW (A 50) (RV fun h' => ¬ FBad T sk kp inp many ∧ ∃ kd' A' O' R' S' F', Gw T80 kd A O kd' A' O' ∧ FrO B R R' S S' F F' ∧ S' 58 = finO T kp inp many ∧ XW kd' A' X R' S' O' F' h')
        (fun h' => FBad T sk kp inp many ∧ ∃ kd' A' O' R' S' F', Gw T80 kd A O kd' A' O' ∧ FrO B R R' S S' F F' ∧ F' 24 = -4 ∧ XW kd' A' X R' S' O' F' h')) kd A X O R S F T sk kp inp many B :=
    ⟨fun kd' A' O' R' S' F' h' e r n1 n2 w' => Or.inl ⟨rfl, n1, kd', A', O', R', S', F', e, r, n2, w'⟩, fun kd' A' O' R' S' F' h' e r n1 n2 w' => Or.inr ⟨rfl, n1, kd', A', O', R', S', F', e, r, n2, w'⟩⟩
  generalize TW (A 50) _ _ = Q at K
  refine X_bipush (pc := 0) (x := 49) dX14_finishes_0 (by decide) ?_
  refine X_iload_n (pc := 2) 3 dX14_finishes_2 rfl rfl ?_
  refine X_imul (pc := 3) dX14_finishes_3 ?_
  rw [show (49 : Int32) * nI many = nI (49 * many) from pk_mul 49 many]
  refine X_new_byte (49 * many) (pc := 4) dX14_finishes_4 rfl (by omega) (by dsimp only; omega) (by dsimp only; omega) (fun q hq => ?_)
  obtain ⟨kd2, A2, e80, a80, ng2, gw2, w2⟩ := w.growS (n := 49 * many) hq (kF 80 (by decide) (by decide)) (freeT (by decide) (by decide))
  have G2 : Gw T80 kd A O kd2 A2 O := gw2 _ _ _ _ f.1 rfl
  have aa : ∀ j, j ≠ 80 → A j = A2 j := fun j h1 => by rw [(ng2 j h1).2]
  have fr2 : FrO B R R S (up S 80 []) F F := ⟨fun _ _ => rfl, fun j hj => up_ne (by have a := obS_ne hj; omega), fun _ _ _ _ => rfl⟩
  generalize hset h q _ = h2 at w2 ⊢
  refine X_astore (pc := 6) (L' := [(6, .ref _), (0, .ref _), (1, .ref _), (2, .int _), (3, .int _), (4, .ref _), (5, .ref _)]) dX14_finishes_6 (Nat.le_of_ble_eq_true rfl) rfl ?_
  refine X_iconst (pc := 8) (x := 0) dX14_finishes_8 (by decide) ?_
  refine X_istore (pc := 9) (L' := [(7, .int _), (6, .ref _), (0, .ref _), (1, .ref _), (2, .int _), (3, .int _), (4, .ref _), (5, .ref _)]) dX14_finishes_9 (Nat.le_of_ble_eq_true rfl) rfl ?_
  rw [← a80, aa B (by omega), aa 55 (by decide), aa 56 (by decide), aa 58 (by decide)]
  refine XX.wide (k' := 1) (n' := 392) (by omega) (by omega) ?_
  exact finHead w2 (o.gw G2 fun j hj => T80_f (by omega)) s ((f.gw s G2).fr s fr2) (fun j h1 h2 => by rw [(ng2 j (by omega)).1]; exact kF j (by omega) (by omega)) e80 (up_same _ _ _) (K.tr G2 fr2)
end XFin4
