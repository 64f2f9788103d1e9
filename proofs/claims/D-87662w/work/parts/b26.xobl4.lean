set_option maxRecDepth 100000
/-! VeilMint's keys of the first type: the challenge -/
theorem sub_mid {a b c : List Int32} {n m : Nat} (ha : a.length = n) (hb : b.length = m) : sub (a ++ (b ++ c)) n m = b := by
  apply List.ext_getElem?
  intro j
  by_cases hj : j < m
  · rw [show (sub (a ++ (b ++ c)) n m)[j]? = some ((a ++ (b ++ c)).getD (n + j) 0) by unfold sub; rw [List.getElem?_map, List.getElem?_range hj]; rfl, List.getD_eq_getElem?_getD, List.getElem?_append_right (by omega), List.getElem?_append_left (by omega), ha, show n + j - n = j by omega, List.getElem?_eq_getElem (by omega)]
    rfl
  · rw [List.getElem?_eq_none (by rw [sub_len]; omega), List.getElem?_eq_none (by omega)]
section XOb4
variable {kd : Nat → KD} {A : Nat → Nat} {X : AH} {R : Nat → Nat} {S : Nat → List Int32} {O : Nat → AC} {F : Nat → Int32} {h : AH} {B : Nat} {lv : Int32}
theorem PtV.cv {R R' : Nat → Nat} {P : Nat} {D : PP} (hv : PtV R P D) (hP : 60 ≤ P) (h : ∀ j, cvS j = false → R' j = R j) : PtV R' P D := by
  unfold PtV
  rw [h _ (cvS_f (by omega)), h _ (cvS_f (by omega)), h _ (cvS_f (by omega))]
  exact hv
def cmF (L5 : List Int32) : Nat → List Int32
  | 0 => []
  | i + 1 => cmF L5 i ++ [tb 0, tb 49] ++ sub L5 (49 * i) 49
theorem cmF_len (L5 : List Int32) : ∀ i, (cmF L5 i).length = 51 * i
  | 0 => rfl
  | i + 1 => by
    show (cmF L5 i ++ [tb 0, tb 49] ++ sub L5 (49 * i) 49).length = _
    rw [List.length_append, List.length_append, cmF_len L5 i, sub_len]
    show 51 * i + 2 + 49 = _
    omega
theorem cmF_5 {e0 e1 e2 e3 e4 : List Int32} (h0 : e0.length = 49) (h1 : e1.length = 49) (h2 : e2.length = 49) (h3 : e3.length = 49) (h4 : e4.length = 49) : cmF (e0 ++ e1 ++ e2 ++ e3 ++ e4) 5 ++ wrd ch0 = chmsg e0 e1 e2 e3 e4 := by
  have s0 : sub (e0 ++ e1 ++ e2 ++ e3 ++ e4) (49 * 0) 49 = e0 := by
    have := sub_mid (a := []) (b := e0) (c := e1 ++ (e2 ++ (e3 ++ e4))) rfl h0
    simp only [List.append_assoc, List.nil_append] at this ⊢
    exact this
  have s1 : sub (e0 ++ e1 ++ e2 ++ e3 ++ e4) (49 * 1) 49 = e1 := by
    have := sub_mid (a := e0) (b := e1) (c := e2 ++ (e3 ++ e4)) h0 h1
    simp only [List.append_assoc] at this ⊢
    exact this
  have s2 : sub (e0 ++ e1 ++ e2 ++ e3 ++ e4) (49 * 2) 49 = e2 := by
    have := sub_mid (a := e0 ++ e1) (b := e2) (c := e3 ++ e4) (n := 98) (by rw [List.length_append]; omega) h2
    simp only [List.append_assoc] at this ⊢
    exact this
  have s3 : sub (e0 ++ e1 ++ e2 ++ e3 ++ e4) (49 * 3) 49 = e3 := by
    have := sub_mid (a := e0 ++ e1 ++ e2) (b := e3) (c := e4) (n := 147) (by rw [List.length_append, List.length_append]; omega) h3
    simp only [List.append_assoc] at this ⊢
    exact this
  have s4 : sub (e0 ++ e1 ++ e2 ++ e3 ++ e4) (49 * 4) 49 = e4 := by
    have := sub_mid (a := e0 ++ e1 ++ e2 ++ e3) (b := e4) (c := []) (n := 196) (by rw [List.length_append, List.length_append, List.length_append]; omega) h4
    simp only [List.append_assoc, List.append_nil] at this ⊢
    exact this
  unfold chmsg
  show ((((([] ++ [tb 0, tb 49] ++ sub _ (49 * 0) 49) ++ [tb 0, tb 49] ++ sub _ (49 * 1) 49) ++ [tb 0, tb 49] ++ sub _ (49 * 2) 49) ++ [tb 0, tb 49] ++ sub _ (49 * 3) 49) ++ [tb 0, tb 49] ++ sub _ (49 * 4) 49) ++ wrd ch0 = _
  rw [s0, s1, s2, s3, s4]
  simp only [List.append_assoc, List.nil_append]
def chR (k j : Nat) : Bool := cvS j || j == k
theorem chR_ne {k j : Nat} (h : chR k j = false) : cvS j = false ∧ j ≠ k := by
  unfold chR at h
  simp only [Bool.or_eq_false_iff, beq_eq_false_iff_ne] at h
  exact h
def chS (B j : Nat) : Bool := hX j || j == B + 8
theorem chS_ne {B j : Nat} (h : chS B j = false) : hX j = false ∧ j ≠ B + 8 := by
  unfold chS at h
  simp only [Bool.or_eq_false_iff, beq_eq_false_iff_ne] at h
  exact h
/-- thrown behind few changes -/
def BadC (kd : Nat → KD) (A : Nat → Nat) (X : AH) (R : Nat → Nat) (S : Nat → List Int32) (O : Nat → AC) (F : Nat → Int32) (B : Nat) (h' : AH) : Prop := ∃ R' S' F', (∀ j, cvS j = false → R' j = R j) ∧ (∀ j, chS B j = false → S' j = S j) ∧ (∀ j, j ≠ 22 → j ≠ 23 → j ≠ 24 → F' j = F j) ∧ F' 24 = -4 ∧ XW kd A X R' S' O F' h'
set_option maxHeartbeats 8000000 in
theorem challengeX_ok (g : GX) (w : XW kd A X R S O F h) (o : ObK kd A O B lv) {PT PU : Nat} (hT : PtK kd A O PT) (hU : PtK kd A O PU) (hT60 : 60 ≤ PT) (hU60 : 60 ≤ PU) (k : Nat) (hk : kd k = (2, 0, 12)) (hel : (S (B + 6)).length = 49) (hBe : IsB (S (B + 6))) {C E T U : PP} (vC : PtV R (B + 14) C) (vE : PtV R (B + 18) E) (vT : PtV R PT T) (vU : PtV R PU U) :
    MT g MX14_challenge ({ frames := 9, cells := 0, slots := 0, locals := 196 } : Room) [.ref (A B), .ref (A PT), .ref (A PU), .ref (A k)] h
      (TW (A 50) (RV fun h' => (C ≠ none ∧ E ≠ none ∧ T ≠ none ∧ U ≠ none) ∧ ∃ R' S' F', (∀ j, chR k j = false → R' j = R j) ∧ (∀ j, chS B j = false → S' j = S j) ∧ XFr F F' ∧ R' k = h2s (chmsg (S (B + 6)) (en C) (en E) (en T) (en U)) ∧ XW kd A X R' S' O F' h')
        (fun h' => ¬ (C ≠ none ∧ E ≠ none ∧ T ≠ none ∧ U ≠ none) ∧ BadC kd A X R S O F B h')) := by
  refine MT.of (by decide) (Nat.le_of_ble_eq_true rfl) ?_
  have hB := o.b
  generalize hQ : TW (A 50) _ _ = Q
  have e9 : ch0.length = 9 := by decide
  obtain ⟨f6, c6, p6, -⟩ := w.s (B + 6) o.el
  obtain ⟨f8, c8, p8, -⟩ := w.s (B + 8) o.fv
  refine X_aload_n (pc := 0) 0 dX14_challenge_0 rfl rfl ?_
  refine X_getfield (pc := 1) dX14_challenge_1 fg_X14_24_9 (o.ob w) (by first | rfl | assumption) ?_
  refine X_iconst (pc := 4) (x := 0) dX14_challenge_4 (by decide) ?_
  refine X_aload_n (pc := 5) 0 dX14_challenge_5 rfl rfl ?_
  refine X_getfield (pc := 6) dX14_challenge_6 fg_X14_31_9 (o.ob w) (by first | rfl | assumption) ?_
  refine X_iconst (pc := 9) (x := 0) dX14_challenge_9 (by decide) ?_
  refine X_bipush (pc := 10) (x := 49) dX14_challenge_10 (by decide) ?_
  refine X_copyI (pc := 12) (0) (0) (49) dX14_challenge_12 q810 (Or.inr rfl) c6 c8 rfl rfl rfl (by omega) (by omega) ⟨by omega, by omega⟩ (Nat.le_of_ble_eq_true rfl) (Nat.le_of_ble_eq_true rfl) ?_
  have w1 := w.cpy (ks := B + 6) (ns := 49) (sN := 0) (dN := 0) (n := 49) o.fv p6 p8 (Nat.zero_le _) (by rw [hel]; decide) (by decide)
  rw [List.take_zero, List.nil_append, sub_all hel] at w1
  generalize hset h (A (B + 8)) (Ai false 2 245 (va_cpy f6 f8 0 0 49)) = h1 at w1
  generalize hE0 : S (B + 6) = E0 at *
  have R1e : ∃ R1 : Nat → Nat, R1 = R := ⟨R, rfl⟩
  obtain ⟨R1, eR1⟩ := R1e
  rw [← eR1] at w1
  have fr1 : ∀ j, cvS j = false → R1 j = R j := fun j _ => by rw [eR1]
  have ll1 : (up S (B + 8) (E0) (B + 8)).length = 49 := by rw [up_same, hel]
  refine X_aload_n (pc := 15) 0 dX14_challenge_15 rfl rfl ?_
  refine X_aload_n (pc := 16) 0 dX14_challenge_16 rfl rfl ?_
  refine X_getfield (pc := 17) dX14_challenge_17 fg_X14_46_9 (o.ob w1) (by first | rfl | assumption) ?_
  refine X_aload_n (pc := 20) 0 dX14_challenge_20 rfl rfl ?_
  refine X_getfield (pc := 21) dX14_challenge_21 fg_X14_31_9 (o.ob w1) (by first | rfl | assumption) ?_
  refine X_bipush (pc := 24) (x := 49) dX14_challenge_24 (by decide) ?_
  rw [show (49 : Int32) = nI (up S (B + 8) (E0) (B + 8)).length by rw [ll1]; rfl]
  refine X_ivvT (pc := 26) _ dX14_challenge_26 cv_X14_129_9 (o.ob w1) rfl (writeO_ok g w1 o (P := B + 14) (kt := B + 8) (nt := 245) o.co (by omega) o.fv (by decide) (by rw [ll1]; decide) (vC.cv (by omega) fr1)) nX14_write (Nat.le_of_ble_eq_true rfl) (Nat.le_of_ble_eq_true rfl) (Nat.le_of_ble_eq_true rfl) (Nat.le_of_ble_eq_true rfl) (fun h2 q2 => ?_) (fun hx qx => XT_out (fun _ hq => absurd hq List.not_mem_nil) (Nat.le_of_ble_eq_true rfl) (Nat.le_of_ble_eq_true rfl) (hQ ▸ Or.inr ⟨rfl, fun z => z.1 qx.1, qx.2.choose, _, _, fun j hj => (qx.2.choose_spec.1 j hj).trans (fr1 j hj), fun j hj => up_ne (chS_ne hj).2, fun j _ _ c => up_ne c, up_same _ _ _, qx.2.choose_spec.2⟩))
  obtain ⟨n1, R2, g2, w2⟩ := q2
  rw [up_up', up_same] at w2
  have fr2 : ∀ j, cvS j = false → R2 j = R j := fun j hj => by rw [g2 j hj, fr1 j hj]
  have ll2 : (up S (B + 8) (E0 ++ en C) (B + 8)).length = 98 := by rw [up_same, List.length_append, hel, en_l49 n1]
  refine X_aload_n (pc := 29) 0 dX14_challenge_29 rfl rfl ?_
  refine X_aload_n (pc := 30) 0 dX14_challenge_30 rfl rfl ?_
  refine X_getfield (pc := 31) dX14_challenge_31 fg_X14_49_9 (o.ob w2) (by first | rfl | assumption) ?_
  refine X_aload_n (pc := 34) 0 dX14_challenge_34 rfl rfl ?_
  refine X_getfield (pc := 35) dX14_challenge_35 fg_X14_31_9 (o.ob w2) (by first | rfl | assumption) ?_
  refine X_bipush (pc := 38) (x := 98) dX14_challenge_38 (by decide) ?_
  rw [show (98 : Int32) = nI (up S (B + 8) (E0 ++ en C) (B + 8)).length by rw [ll2]; rfl]
  refine X_ivvT (pc := 40) _ dX14_challenge_40 cv_X14_129_9 (o.ob w2) rfl (writeO_ok g w2 o (P := B + 18) (kt := B + 8) (nt := 245) o.ev (by omega) o.fv (by decide) (by rw [ll2]; decide) (vE.cv (by omega) fr2)) nX14_write (Nat.le_of_ble_eq_true rfl) (Nat.le_of_ble_eq_true rfl) (Nat.le_of_ble_eq_true rfl) (Nat.le_of_ble_eq_true rfl) (fun h3 q3 => ?_) (fun hx qx => XT_out (fun _ hq => absurd hq List.not_mem_nil) (Nat.le_of_ble_eq_true rfl) (Nat.le_of_ble_eq_true rfl) (hQ ▸ Or.inr ⟨rfl, fun z => z.2.1 qx.1, qx.2.choose, _, _, fun j hj => (qx.2.choose_spec.1 j hj).trans (fr2 j hj), fun j hj => up_ne (chS_ne hj).2, fun j _ _ c => up_ne c, up_same _ _ _, qx.2.choose_spec.2⟩))
  obtain ⟨n2, R3, g3, w3⟩ := q3
  rw [up_up', up_same] at w3
  have fr3 : ∀ j, cvS j = false → R3 j = R j := fun j hj => by rw [g3 j hj, fr2 j hj]
  have ll3 : (up S (B + 8) (E0 ++ en C ++ en E) (B + 8)).length = 147 := by rw [up_same, List.length_append, List.length_append, hel, en_l49 n1, en_l49 n2]
  refine X_aload_n (pc := 43) 0 dX14_challenge_43 rfl rfl ?_
  refine X_aload_n (pc := 44) 1 dX14_challenge_44 rfl rfl ?_
  refine X_aload_n (pc := 45) 0 dX14_challenge_45 rfl rfl ?_
  refine X_getfield (pc := 46) dX14_challenge_46 fg_X14_31_9 (o.ob w3) (by first | rfl | assumption) ?_
  refine X_sipush (pc := 49) (x := 147) dX14_challenge_49 (by decide) ?_
  rw [show (147 : Int32) = nI (up S (B + 8) (E0 ++ en C ++ en E) (B + 8)).length by rw [ll3]; rfl]
  refine X_ivvT (pc := 52) _ dX14_challenge_52 cv_X14_129_9 (o.ob w3) rfl (writeO_ok g w3 o (P := PT) (kt := B + 8) (nt := 245) hT hT60 o.fv (by decide) (by rw [ll3]; decide) (vT.cv hT60 fr3)) nX14_write (Nat.le_of_ble_eq_true rfl) (Nat.le_of_ble_eq_true rfl) (Nat.le_of_ble_eq_true rfl) (Nat.le_of_ble_eq_true rfl) (fun h4 q4 => ?_) (fun hx qx => XT_out (fun _ hq => absurd hq List.not_mem_nil) (Nat.le_of_ble_eq_true rfl) (Nat.le_of_ble_eq_true rfl) (hQ ▸ Or.inr ⟨rfl, fun z => z.2.2.1 qx.1, qx.2.choose, _, _, fun j hj => (qx.2.choose_spec.1 j hj).trans (fr3 j hj), fun j hj => up_ne (chS_ne hj).2, fun j _ _ c => up_ne c, up_same _ _ _, qx.2.choose_spec.2⟩))
  obtain ⟨n3, R4, g4, w4⟩ := q4
  rw [up_up', up_same] at w4
  have fr4 : ∀ j, cvS j = false → R4 j = R j := fun j hj => by rw [g4 j hj, fr3 j hj]
  have ll4 : (up S (B + 8) (E0 ++ en C ++ en E ++ en T) (B + 8)).length = 196 := by rw [up_same, List.length_append, List.length_append, List.length_append, hel, en_l49 n1, en_l49 n2, en_l49 n3]
  refine X_aload_n (pc := 55) 0 dX14_challenge_55 rfl rfl ?_
  refine X_aload_n (pc := 56) 2 dX14_challenge_56 rfl rfl ?_
  refine X_aload_n (pc := 57) 0 dX14_challenge_57 rfl rfl ?_
  refine X_getfield (pc := 58) dX14_challenge_58 fg_X14_31_9 (o.ob w4) (by first | rfl | assumption) ?_
  refine X_sipush (pc := 61) (x := 196) dX14_challenge_61 (by decide) ?_
  rw [show (196 : Int32) = nI (up S (B + 8) (E0 ++ en C ++ en E ++ en T) (B + 8)).length by rw [ll4]; rfl]
  refine X_ivvT (pc := 64) _ dX14_challenge_64 cv_X14_129_9 (o.ob w4) rfl (writeO_ok g w4 o (P := PU) (kt := B + 8) (nt := 245) hU hU60 o.fv (by decide) (by rw [ll4]; decide) (vU.cv hU60 fr4)) nX14_write (Nat.le_of_ble_eq_true rfl) (Nat.le_of_ble_eq_true rfl) (Nat.le_of_ble_eq_true rfl) (Nat.le_of_ble_eq_true rfl) (fun h5 q5 => ?_) (fun hx qx => XT_out (fun _ hq => absurd hq List.not_mem_nil) (Nat.le_of_ble_eq_true rfl) (Nat.le_of_ble_eq_true rfl) (hQ ▸ Or.inr ⟨rfl, fun z => z.2.2.2 qx.1, qx.2.choose, _, _, fun j hj => (qx.2.choose_spec.1 j hj).trans (fr4 j hj), fun j hj => up_ne (chS_ne hj).2, fun j _ _ c => up_ne c, up_same _ _ _, qx.2.choose_spec.2⟩))
  obtain ⟨n4, R5, g5, w5⟩ := q5
  rw [up_up', up_same] at w5
  have fr5 : ∀ j, cvS j = false → R5 j = R j := fun j hj => by rw [g5 j hj, fr4 j hj]
  have hl5 : (up S (B + 8) (E0 ++ en C ++ en E ++ en T ++ en U) (B + 8)).length = 245 := by
    rw [up_same, List.length_append, List.length_append, List.length_append, List.length_append, hel, en_l49 n1, en_l49 n2, en_l49 n3, en_l49 n4]
  have hB5 : IsB (up S (B + 8) (E0 ++ en C ++ en E ++ en T ++ en U) (B + 8)) := by
    rw [up_same]
    exact (((hBe.app (en_B' _)).app (en_B' _)).app (en_B' _)).app (en_B' _)
  have s5 : up S (B + 8) (E0 ++ en C ++ en E ++ en T ++ en U) (B + 8) = E0 ++ en C ++ en E ++ en T ++ en U := up_same _ _ _
  generalize hS5 : up S (B + 8) (E0 ++ en C ++ en E ++ en T ++ en U) = S5 at *
  have hSj : ∀ j, j ≠ B + 8 → S5 j = S j := fun j hj => by rw [← hS5, up_ne hj]
  have zl : zer128.length = 128 := List.length_replicate
  have loop : ∀ m i, i + m = 5 → ∀ h', DL kd A X R5 S5 O F (zer128 ++ cmF (S5 (B + 8)) i) h' →
      XX g MX14_challenge ({ frames := 9, cells := 0, slots := 0, locals := 196 } : Room) Q 0 0 79 [(5, .int (nI i)), (4, .ref (A 6)), (0, .ref (A B)), (1, .ref (A PT)), (2, .ref (A PU)), (3, .ref (A k))] [] h' := by
    intro m
    induction m with
    | zero =>
      intro i hi h' d'
      have e : i = 5 := by omega
      subst e
      have ll : (zer128 ++ cmF (S5 (B + 8)) 5).length = 383 := by rw [List.length_append, zl, cmF_len]
      refine X_iload (pc := 79) 0 dX14_challenge_79 rfl ?_
      refine X_iconst (pc := 81) (x := 5) dX14_challenge_81 (by decide) ?_
      refine X_cge (a := 5) (b := 5) (pc := 82) 113 dX14_challenge_82 (by decide) (by omega) (by omega) (fun _ => ?_) (fun c => absurd c (by omega))
      refine X_aload (pc := 113) 1 dX14_challenge_113 rfl ?_
      refine X_ldcS (pc := 115) (j := 12) dX14_challenge_115 rfl (fun tx_115 vx_115 ht_115 => ?_)
      refine X_ivr (pc := 117) _ dX14_challenge_117 cv_X14_150_2 (XW.dL d'.1) rfl (wordL_ok g d' ht_115 (c7_all (by decide)) (by rw [ll]; decide)) nX2_word (Nat.le_of_ble_eq_true rfl) (Nat.le_of_ble_eq_true rfl) (Nat.le_of_ble_eq_true rfl) (Nat.le_of_ble_eq_true rfl) (fun r2 h2 q2 => ?_)
      obtain ⟨rfl, d2⟩ := q2
      rw [List.append_assoc, s5, show wrd (chars "Challenge") = wrd ch0 from rfl, cmF_5 hel (en_l49 n1) (en_l49 n2) (en_l49 n3) (en_l49 n4)] at d2
      have lm : (chmsg E0 (en C) (en E) (en T) (en U)).length ≤ 300 := by
        rw [← cmF_5 hel (en_l49 n1) (en_l49 n2) (en_l49 n3) (en_l49 n4), List.length_append, cmF_len, wrd_len, e9]
        decide
      refine X_pop (pc := 120) dX14_challenge_120 rfl ?_
      refine X_aload_n (pc := 121) 2 dX14_challenge_121 rfl rfl ?_
      refine X_getfield (pc := 122) dX14_challenge_122 fg_X14_58_9 (o.ob d2.1) (by first | rfl | assumption) ?_
      refine X_aload_n (pc := 125) 5 dX14_challenge_125 rfl rfl ?_
      refine X_ivv (pc := 126) _ dX14_challenge_126 cv_X14_167_3 (XW.cv d2.1) rfl (scalarX_ok g d2 k hk (by omega)) nX5_scalar (Nat.le_of_ble_eq_true rfl) (Nat.le_of_ble_eq_true rfl) (Nat.le_of_ble_eq_true rfl) (Nat.le_of_ble_eq_true rfl) (fun h3 q3 => ?_)
      obtain ⟨S3, F3, s3, f3, w3⟩ := q3
      subst hQ
      refine X_return (pc := 129) dX14_challenge_129 rfl (Nat.le_of_ble_eq_true rfl) (Nat.le_of_ble_eq_true rfl) ?_
      refine Or.inl ⟨rfl, ⟨n1, n2, n3, n4⟩, _, S3, F3, fun j hj => ?_, fun j hj => ?_, f3, up_same _ _ _, w3⟩
      · obtain ⟨a1, a2⟩ := chR_ne hj
        rw [up_ne a2, fr5 j a1]
      · obtain ⟨a1, a2⟩ := chS_ne hj
        rw [s3 j a1, hSj j a2]
    | succ m ih =>
      intro i hi h' d'
      have ll : (zer128 ++ cmF (S5 (B + 8)) i).length = 128 + 51 * i := by rw [List.length_append, zl, cmF_len]
      refine X_iload (pc := 79) 0 dX14_challenge_79 rfl ?_
      refine X_iconst (pc := 81) (x := 5) dX14_challenge_81 (by decide) ?_
      refine X_cge (b := 5) (pc := 82) 113 dX14_challenge_82 (by decide) (by omega) (by omega) (fun c => absurd c (by omega)) (fun _ => ?_)
      refine X_aload (pc := 85) 1 dX14_challenge_85 rfl ?_
      refine X_bipush (pc := 87) (x := 49) dX14_challenge_87 (by decide) ?_
      refine X_ivr (pc := 89) _ dX14_challenge_89 cv_X14_144_2 (XW.dL d'.1) rfl (xtwoL_ok g d' (n := 49) (by decide) (by rw [ll]; omega)) nX2_two (Nat.le_of_ble_eq_true rfl) (Nat.le_of_ble_eq_true rfl) (Nat.le_of_ble_eq_true rfl) (Nat.le_of_ble_eq_true rfl) (fun r2 h2 q2 => ?_)
      obtain ⟨rfl, d2⟩ := q2
      refine X_aload_n (pc := 92) 2 dX14_challenge_92 rfl rfl ?_
      refine X_getfield (pc := 93) dX14_challenge_93 fg_X14_31_9 (o.ob d2.1) (by first | rfl | assumption) ?_
      refine X_bipush (pc := 96) (x := 49) dX14_challenge_96 (by decide) ?_
      refine X_iload (pc := 98) 0 dX14_challenge_98 rfl ?_
      refine X_imul (pc := 100) dX14_challenge_100 ?_
      rw [show (49 : Int32) * nI i = nI (49 * i) from pk_mul 49 i]
      refine X_bipush (pc := 101) (x := 49) dX14_challenge_101 (by decide) ?_
      refine X_ivr (pc := 103) _ dX14_challenge_103 cv_X14_113_2 (XW.dL d2.1) rfl (xputsL_ok g d2 (ks := B + 8) (fr := 49 * i) (n := 49) o.fv (by decide) hB5 (by rw [hl5]; omega) (by rw [List.length_append, ll]; show 128 + 51 * i + 2 + 49 + 1 < _; omega)) nX2_put (Nat.le_of_ble_eq_true rfl) (Nat.le_of_ble_eq_true rfl) (Nat.le_of_ble_eq_true rfl) (Nat.le_of_ble_eq_true rfl) (fun r3 h3 q3 => ?_)
      obtain ⟨rfl, d3⟩ := q3
      rw [List.append_assoc, List.append_assoc, ← List.append_assoc (cmF (S5 (B + 8)) i)] at d3
      refine X_pop (pc := 106) dX14_challenge_106 rfl ?_
      refine X_iinc (pc := 107) (L' := [(5, .int (_ + 1)), (4, .ref _), (0, .ref _), (1, .ref _), (2, .ref _), (3, .ref _)]) 0 dX14_challenge_107 rfl rfl (Nat.le_of_ble_eq_true rfl) rfl ?_
      refine X_goto (pc := 110) 79 dX14_challenge_110 (by decide) ?_
      rw [show nI i + 1 = nI (i + 1) from nI_add i 1]
      exact ih (i + 1) (by omega) h3 d3
  refine X_aload_n (pc := 67) 0 dX14_challenge_67 rfl rfl ?_
  refine X_getfield (pc := 68) dX14_challenge_68 fg_X14_58_9 (o.ob w5) (by first | rfl | assumption) ?_
  refine X_ivr (pc := 71) _ dX14_challenge_71 cv_X14_109_3 (XW.cv w5) rfl (beginX_ok g w5) nX5_begin (Nat.le_of_ble_eq_true rfl) (Nat.le_of_ble_eq_true rfl) (Nat.le_of_ble_eq_true rfl) (Nat.le_of_ble_eq_true rfl) (fun r6 h6 q6 => ?_)
  obtain ⟨rfl, d6⟩ := q6
  refine X_astore (pc := 74) (L' := [(4, .ref _), (0, .ref _), (1, .ref _), (2, .ref _), (3, .ref _)]) dX14_challenge_74 (Nat.le_of_ble_eq_true rfl) rfl ?_
  refine X_iconst (pc := 76) (x := 0) dX14_challenge_76 (by decide) ?_
  refine X_istore (pc := 77) (L' := [(5, .int _), (4, .ref _), (0, .ref _), (1, .ref _), (2, .ref _), (3, .ref _)]) dX14_challenge_77 (Nat.le_of_ble_eq_true rfl) rfl ?_
  exact loop 5 0 (by omega) h6 (by rw [show cmF (S5 (B + 8)) 0 = [] from rfl, List.append_nil]; exact d6)
end XOb4
