set_option maxRecDepth 100000
/-! VeilMint's keys of the first type: finishing, all -/
section XFin3
variable {kd kd' : Nat → KD} {A A' : Nat → Nat} {X : AH} {R R' : Nat → Nat} {S S' : Nat → List Int32} {O O' : Nat → AC} {F F' : Nat → Int32} {h : AH} {B : Nat} {lv : Int32} {Q : Outcome → AH → Prop} {T : List Int32} {sk a many : Nat} {kp : Nat → Nat} {inp : Nat → List Int32} {g : GX}
/-- a new row of bytes / of limbs -/
theorem XW.growS (w : XW kd A X R S O F h) {q k n : Nat} (hq : h q = none) (hk : (kd k).1 = 0) (fk : FreeK F k) :
    ∃ kd' A', kd' k = (6, 2, n) ∧ A' k = q ∧ (∀ j, j ≠ k → kd' j = kd j ∧ A' j = A j) ∧ (∀ D kd0 A0 O0, Gw D kd0 A0 O0 kd A O → D k = true → Gw D kd0 A0 O0 kd' A' O) ∧ XW kd' A' X R (up S k []) O F (hset h q (Ai false 2 n fun _ => 0)) :=
  ⟨up kd k (6, 2, n), up A k q, up_same _ _ _, up_same _ _ _, fun j hj => ⟨up_ne hj, up_ne hj⟩, fun D kd0 A0 O0 e hD => e.add hD (by show (6 : Nat) ≠ 7; decide), w.addS hq hk fk (fun j hj => absurd hj (Nat.not_lt_zero j)) (Nat.zero_le _)⟩
theorem V_zero0 : ∀ n, V n (fun _ => (0 : Int32)) = 0
  | 0 => rfl
  | n + 1 => by
    show V n (fun _ => (0 : Int32)) + _ = 0
    rw [V_zero0 n]
    show 0 + 0 * _ = 0
    rw [Nat.zero_mul]
theorem XW.growN (w : XW kd A X R S O F h) {q k n : Nat} (hq : h q = none) (hk : (kd k).1 = 0) (fk : FreeK F k) :
    ∃ kd' A', kd' k = (2, 0, n) ∧ A' k = q ∧ (∀ j, j ≠ k → kd' j = kd j ∧ A' j = A j) ∧ (∀ D kd0 A0 O0, Gw D kd0 A0 O0 kd A O → D k = true → Gw D kd0 A0 O0 kd' A' O) ∧ XW kd' A' X (up R k 0) S O F (hset h q (Ai false 0 n fun _ => 0)) :=
  ⟨up kd k (2, 0, n), up A k q, up_same _ _ _, up_same _ _ _, fun j hj => ⟨up_ne hj, up_ne hj⟩, fun D kd0 A0 O0 e hD => e.add hD (by show (2 : Nat) ≠ 7; decide), by
    have := w.addN2 (f := fun _ => 0) (n := n) hq hk fk
    rw [V_zero0] at this
    exact this⟩
set_option maxHeartbeats 16000000 in
theorem finMid (w : XW kd A X R S O F h) (o : ObK kd A O B lv) (s : FinS T sk kp inp a many B) (f : FinH kd A O R S F T sk kp inp a many B) (hel : ∀ i, i < many → finE T i ≠ none) (k84 : ∀ j, 84 ≤ j → j ≤ 87 → (kd j).1 = 0) (k80 : kd 80 = (6, 2, 49 * many)) (k81 : kd 81 = (2, 0, 12)) (k82 : kd 82 = (2, 0, 12)) (s80 : S 80 = catE (finM kp inp) many)
    (K : FinK Q kd A X O R S F T sk kp inp many B) {k0 n0 : Nat} (hk0 : k0 + 29 ≤ 80) (hn0 : n0 + 1700 ≤ 5000) :
    XX g MX14_finishes ({ frames := 10, cells := 80, slots := 5000, locals := 225 } : Room) Q k0 n0 113 [(9, .ref (A 82)), (8, .ref (A 81)), (7, .int (nI (49 * many))), (6, .ref (A 80)), (0, .ref (A B)), (1, .ref (A 55)), (2, .int (nI a)), (3, .int (nI many)), (4, .ref (A 56)), (5, .ref (A 58))] [] h := by
  have s' := s
  obtain ⟨hBT, ⟨hlT, hlT2⟩, ⟨hm, ham, hB, hB2⟩, hpk, hin⟩ := s
  have e56 : S 56 = T := f.2.2.1
  have e6 : S (B + 6) = en (mP sk GP) := f.2.2.2.1
  generalize hcn : num T (49 * many) 48 = c
  generalize hzn : num T (49 * many + 48) 48 = z
  have bad : ∀ (k n : Nat) (L : List (Nat × Value)) (R1 : Nat → Nat) (h1 : AH), k ≤ k0 → n ≤ n0 → XW kd A X R1 S O F h1 → FrO B R R1 S S F F → ¬ (c < qP ∧ z < qP) → L = [(9, .ref (A 82)), (8, .ref (A 81)), (7, .int (nI (49 * many))), (6, .ref (A 80)), (0, .ref (A B)), (1, .ref (A 55)), (2, .int (nI a)), (3, .int (nI many)), (4, .ref (A 56)), (5, .ref (A 58))] →
      XX g MX14_finishes ({ frames := 10, cells := 80, slots := 5000, locals := 225 } : Room) Q k n 158 L [] h1 := by
    intro k n L R1 h1 hk hn w1 fr1 hn1 hL
    subst hL
    refine X_aload_n (pc := 158) 4 dX14_finishes_158 rfl rfl ?_
    refine X_getfield (pc := 159) dX14_finishes_159 fg_X14_62_9 (o.ob w1) (by first | rfl | assumption) ?_
    refine X_bipush (pc := 162) (x := (-4)) dX14_finishes_162 (by decide) ?_
    refine X_ivr (pc := 164) _ dX14_finishes_164 cv_X14_70_6 (XW.rf w1) rfl (as_ok g w1 (-4)) nX8_as (Nat.le_of_ble_eq_true rfl) (Nat.le_of_ble_eq_true rfl) (by dsimp only; omega) (by dsimp only; omega) (fun r7 h7 q7 => ?_)
    obtain ⟨rfl, w7⟩ := q7
    refine X_athrow (pc := 167) dX14_finishes_167 rfl (by dsimp only; omega) (by dsimp only; omega) ?_
    refine K.2 kd A O R1 S _ _ f.1 (fr1.why (-4)) ?_ (up_same _ _ _) w7
    by_cases q1 : c < qP
    · exact Or.inr (Or.inr (Or.inl (by rw [hzn]; exact Nat.le_of_not_lt fun q2 => hn1 ⟨q1, q2⟩)))
    · exact Or.inr (Or.inl (by rw [hcn]; exact Nat.le_of_not_lt q1))
  have rd1 := xreadW g w w.mq 81 k81 (kb := 56) (nb := 1200) (fr := 49 * many) (many := 48) (w.k 56 (by decide)) (by decide) (by rw [e56]; omega) (by decide)
  rw [e56, hcn] at rd1
  refine X_aload_n (pc := 113) 4 dX14_finishes_113 rfl rfl ?_
  refine X_getfield (pc := 114) dX14_finishes_114 fg_X14_58_9 (o.ob w) (by first | rfl | assumption) ?_
  refine X_getfield (pc := 117) dX14_finishes_117 fg_X14_89_3 (XW.cv w) (by first | rfl | assumption) ?_
  refine X_aload (pc := 120) 8 dX14_finishes_120 rfl ?_
  refine X_iload (pc := 122) 2 dX14_finishes_122 rfl ?_
  refine X_bipush (pc := 124) (x := 48) dX14_finishes_124 (by decide) ?_
  refine X_aload (pc := 126) 1 dX14_finishes_126 rfl ?_
  refine X_ivi (pc := 128) _ dX14_finishes_128 cv_X14_93_4 (MoK.ob (XW.mq w) w) rfl (rd1) nX6_read (Nat.le_of_ble_eq_true rfl) (Nat.le_of_ble_eq_true rfl) (by dsimp only; omega) (by dsimp only; omega) (fun r1 h1 q1 => ?_)
  obtain ⟨er1, q1⟩ := q1
  obtain ⟨R1, c1, o1, w1⟩ := XW.ab q1
  have fr1 : FrO B R R1 S S F F := ⟨fun j hj => o1 j (by have a := obR_ne hj; omega), fun _ _ => rfl, fun _ _ _ _ => rfl⟩
  by_cases hcq : c < qP
  · rw [if_pos hcq] at er1
    subst er1
    refine X_if_eq (pc := 131) 158 dX14_finishes_131 (by decide) (fun q => absurd q (by decide)) (fun _ => ?_)
    have rd2 := xreadW g w1 w1.mq 82 k82 (kb := 56) (nb := 1200) (fr := 49 * many + 48) (many := 48) (w1.k 56 (by decide)) (by decide) (by rw [e56]; omega) (by decide)
    rw [e56, hzn] at rd2
    refine X_aload_n (pc := 134) 4 dX14_finishes_134 rfl rfl ?_
    refine X_getfield (pc := 135) dX14_finishes_135 fg_X14_58_9 (o.ob w1) (by first | rfl | assumption) ?_
    refine X_getfield (pc := 138) dX14_finishes_138 fg_X14_89_3 (XW.cv w1) (by first | rfl | assumption) ?_
    refine X_aload (pc := 141) 8 dX14_finishes_141 rfl ?_
    refine X_iload (pc := 143) 2 dX14_finishes_143 rfl ?_
    refine X_bipush (pc := 145) (x := 48) dX14_finishes_145 (by decide) ?_
    refine X_iadd (pc := 147) dX14_finishes_147 ?_
    rw [show nI (49 * many) + 48 = nI (49 * many + 48) from nI_add _ 48]
    refine X_bipush (pc := 148) (x := 48) dX14_finishes_148 (by decide) ?_
    refine X_aload (pc := 150) 0 dX14_finishes_150 rfl ?_
    refine X_ivi (pc := 152) _ dX14_finishes_152 cv_X14_93_4 (MoK.ob (XW.mq w1) w1) rfl (rd2) nX6_read (Nat.le_of_ble_eq_true rfl) (Nat.le_of_ble_eq_true rfl) (by dsimp only; omega) (by dsimp only; omega) (fun r2 h2 q2 => ?_)
    obtain ⟨er2, q2⟩ := q2
    obtain ⟨R2, z2, o2, w2⟩ := XW.ab q2
    have c2 : R2 81 = c := by rw [o2 _ (by decide)]; exact c1
    have fr2 : FrO B R R2 S S F F := fr1.trans ⟨fun j hj => o2 j (by have a := obR_ne hj; omega), fun _ _ => rfl, fun _ _ _ _ => rfl⟩
    by_cases hzq : z < qP
    · rw [if_pos hzq] at er2
      subst er2
      refine X_if_ne (pc := 155) 168 dX14_finishes_155 (by decide) (fun _ => ?_) (fun q => absurd q (by decide))
      have xb2 : XB R2 := f.2.1.ob hB fr2.1
      have l80 : (S 80).length = 49 * many := by rw [s80]; exact catE_l many fun i hi => (hin i hi).2.2.2.2
      have hM : ∀ i, i < many → sub (S 80) (0 + 49 * i) 49 = en (finM kp inp i) := fun i hi => by
        have := catE_at many i hi (fun j hj => (hin j hj).2.2.2.2) []
        rw [List.append_nil] at this
        rw [s80, Nat.zero_add]
        exact this
      have hMe : ∀ i, i < many → eltP (S 80) (0 + 49 * i) = finM kp inp i := fun i hi => eltP_en (mP_on (h2p_on _) _) (hin i hi).2.2.2.2 (hM i hi)
      have cm3 := compositesX_ok g w2 o xb2 (kb := 80) (nb := 49 * many) (at' := 0) (ke := 56) (ne := 1200) (fr := 0) (many := many) (kn := 0) (Or.inl rfl) k80 (by omega) (by unfold cmS; simp only [Bool.or_eq_false_iff, beq_eq_false_iff_ne]; exact ⟨hX_f (by decide), by omega⟩) (w2.k 56 (by decide)) (by decide) (by unfold cmS; simp only [Bool.or_eq_false_iff, beq_eq_false_iff_ne]; exact ⟨hX56, by omega⟩) (by rw [s80]; exact catE_Bx _) (by rw [e56]; exact hBT) (by rw [l80]; omega) (by rw [e56]; omega) hm (by rw [e6]; exact en_l49 hpk) (by rw [e6]; exact en_B' _) (fun i hi => by rw [hMe i hi]; exact (hin i hi).2.2.2.2) (fun _ i hi => by rw [e56, Nat.zero_add]; exact hel i hi)
      have hdd : ∀ i, i < many → dXl (S (B + 6)) (S 80) (S 56) 0 0 i = cD (en (mP sk GP)) (finM kp inp) (finE T) i := fun i hi => by
        unfold dXl cD
        rw [hM i hi, e56, Nat.zero_add, e6, show finE T i = eltP T (49 * i) from rfl, en_elt hBT (by omega) (hel i hi)]
      rw [cpt_cg2 (P := fun i => eltP (S 80) (0 + 49 * i)) many (fun i hi => ⟨hdd i hi, hMe i hi⟩), cpt_cg2 (P := fun i => eltP (S 56) (0 + 49 * i)) (P' := finE T) many (fun i hi => ⟨hdd i hi, by show eltP (S 56) (0 + 49 * i) = eltP T (49 * i); rw [e56, Nat.zero_add]⟩), if_neg (by decide)] at cm3
      rw [show cpt (cD (en (mP sk GP)) (finM kp inp) (finE T)) (finM kp inp) many = finC T sk kp inp many from rfl, show cpt (cD (en (mP sk GP)) (finM kp inp) (finE T)) (finE T) many = finZ T sk kp inp many from rfl] at cm3
      refine X_aload_n (pc := 168) 4 dX14_finishes_168 rfl rfl ?_
      refine X_aload (pc := 169) 3 dX14_finishes_169 rfl ?_
      refine X_iconst (pc := 171) (x := 0) dX14_finishes_171 (by decide) ?_
      refine X_aload (pc := 172) 8 dX14_finishes_172 rfl ?_
      refine X_iconst (pc := 174) (x := 0) dX14_finishes_174 (by decide) ?_
      refine X_iload_n (pc := 175) 7 dX14_finishes_175 rfl rfl ?_
      refine X_iconst (pc := 176) (x := 0) dX14_finishes_176 (by decide) ?_
      refine X_ivv (pc := 177) _ dX14_finishes_177 cv_X14_178_9 (o.ob w2) rfl (cm3) nX14_composites (Nat.le_of_ble_eq_true rfl) (Nat.le_of_ble_eq_true rfl) (by dsimp only; omega) (by dsimp only; omega) (fun h3 q3 => ?_)
      obtain ⟨R3, S3, F3, r3, s3, f3, vC, vZ, w3⟩ := q3
      have fr3 : FrO B R R3 S S3 F F3 := fr2.trans ⟨fun j hj => r3 j (cmR_f (by have a := obR_ne hj; omega)), fun j hj => s3 j (by unfold cmS; simp only [Bool.or_eq_false_iff, beq_eq_false_iff_ne]; have a := obS_ne hj; exact ⟨a.1, by omega⟩), fun j a b _ => f3 j a b⟩
      have xb3 : XB R3 := f.2.1.ob hB fr3.1
      have c3 : R3 81 = c := by rw [r3 _ (cmR_f (by omega))]; exact c2
      have z3 : R3 82 = z := by rw [r3 _ (cmR_f (by omega))]; exact z2
      have e63 : S3 (B + 6) = en (mP sk GP) := by rw [s3 _ (by unfold cmS; simp only [Bool.or_eq_false_iff, beq_eq_false_iff_ne]; exact ⟨hX_f (by omega), by omega⟩)]; exact e6
      have hee : eltP (S3 (B + 6)) 0 = mP sk GP := eltP_en (mP_on GP_on _) hpk (by rw [e63]; exact sub_all (en_l49 hpk))
      have rd4 := readO_ok g w3 o (P := B + 10) (kb := B + 6) (nb := 49) (at' := 0) o.pt (by omega) xb3 o.el (by decide) (by rw [e63, en_l49 hpk]; decide)
      rw [hee] at rd4
      refine X_aload_n (pc := 180) 4 dX14_finishes_180 rfl rfl ?_
      refine X_aload_n (pc := 181) 4 dX14_finishes_181 rfl rfl ?_
      refine X_getfield (pc := 182) dX14_finishes_182 fg_X14_24_9 (o.ob w3) (by first | rfl | assumption) ?_
      refine X_iconst (pc := 185) (x := 0) dX14_finishes_185 (by decide) ?_
      refine X_aload_n (pc := 186) 4 dX14_finishes_186 rfl rfl ?_
      refine X_getfield (pc := 187) dX14_finishes_187 fg_X14_42_9 (o.ob w3) (by first | rfl | assumption) ?_
      refine X_ivvT (pc := 190) _ dX14_finishes_190 cv_X14_170_9 (o.ob w3) rfl (rd4) nX14_read (Nat.le_of_ble_eq_true rfl) (Nat.le_of_ble_eq_true rfl) (by dsimp only; omega) (by dsimp only; omega) (fun h4 q4 => ?_) (fun hx qx => absurd qx.1 hpk)
      obtain ⟨-, R4, r4, vP, w4⟩ := q4
      have fr4 : FrO B R R4 S S3 F F3 := fr3.trans ⟨fun j hj => r4 j (by have a := obR_ne hj; exact ecS_f (by omega) (by omega) (by omega) (by omega)), fun _ _ => rfl, fun _ _ _ _ => rfl⟩
      have xb4 : XB R4 := f.2.1.ob hB fr4.1
      have c4 : R4 81 = c := by rw [r4 _ (ecS_f (by omega) (by omega) (by omega) (by omega))]; exact c3
      have z4 : R4 82 = z := by rw [r4 _ (ecS_f (by omega) (by omega) (by omega) (by omega))]; exact z3
      have vC4 := vC.ec (Q := B + 10) (by omega) (by omega) r4
      have vZ4 := vZ.ec (Q := B + 10) (by omega) (by omega) r4
      have okz : OpE kd A X R4 S3 O F3 (tmS (B + 22)) (A 82) 12 z := by
        rw [← z4]
        exact OpE.g (mv := qP) (St.q k82) (tmS_f (ecS_f (by omega) (by omega) (by omega) (by omega)) (by omega))
      refine X_aload_n (pc := 193) 4 dX14_finishes_193 rfl rfl ?_
      refine X_getfield (pc := 194) dX14_finishes_194 fg_X14_58_9 (o.ob w4) (by first | rfl | assumption) ?_
      refine X_aload (pc := 197) 0 dX14_finishes_197 rfl ?_
      refine X_aload_n (pc := 199) 4 dX14_finishes_199 rfl rfl ?_
      refine X_getfield (pc := 200) dX14_finishes_200 fg_X14_58_9 (o.ob w4) (by first | rfl | assumption) ?_
      refine X_getfield (pc := 203) dX14_finishes_203 fg_X14_76_3 (XW.cv w4) (by first | rfl | assumption) ?_
      refine X_aload_n (pc := 206) 4 dX14_finishes_206 rfl rfl ?_
      refine X_getfield (pc := 207) dX14_finishes_207 fg_X14_52_9 (o.ob w4) (by first | rfl | assumption) ?_
      refine X_ivv (pc := 210) _ dX14_finishes_210 cv_X14_81_3 (XW.cv w4) rfl (times_ok g w4 (P := B + 22) (Q := 60) o.wk (XW.pt60 w4) (by omega) (by decide) (by omega) (by omega) xb4 okz GP_on xb4.base) nX5_times (Nat.le_of_ble_eq_true rfl) (Nat.le_of_ble_eq_true rfl) (by dsimp only; omega) (by dsimp only; omega) (fun h5 q5 => ?_)
      obtain ⟨R5, r5, vW, w5⟩ := q5
      have fr5 : FrO B R R5 S S3 F F3 := fr4.trans ⟨fun j hj => r5 j (by have a := obR_ne hj; exact tmS_f (ecS_f (by omega) (by omega) (by omega) (by omega)) (by omega)), fun _ _ => rfl, fun _ _ _ _ => rfl⟩
      have xb5 : XB R5 := f.2.1.ob hB fr5.1
      have c5 : R5 81 = c := by rw [r5 _ (tmS_f (ecS_f (by omega) (by omega) (by omega) (by omega)) (by omega))]; exact c4
      have z5 : R5 82 = z := by rw [r5 _ (tmS_f (ecS_f (by omega) (by omega) (by omega) (by omega)) (by omega))]; exact z4
      have vC5 := vC4.tm (Q := B + 22) (by omega) (by omega) r5
      have vZ5 := vZ4.tm (Q := B + 22) (by omega) (by omega) r5
      have vP5 := vP.tm (Q := B + 22) (by omega) (by omega) r5
      have okc : OpE kd A X R5 S3 O F3 (tmS (B + 26)) (A 81) 12 c := by
        rw [← c5]
        exact OpE.g (mv := qP) (St.q k81) (tmS_f (ecS_f (by omega) (by omega) (by omega) (by omega)) (by omega))
      refine X_aload_n (pc := 213) 4 dX14_finishes_213 rfl rfl ?_
      refine X_getfield (pc := 214) dX14_finishes_214 fg_X14_58_9 (o.ob w5) (by first | rfl | assumption) ?_
      refine X_aload (pc := 217) 1 dX14_finishes_217 rfl ?_
      refine X_aload_n (pc := 219) 4 dX14_finishes_219 rfl rfl ?_
      refine X_getfield (pc := 220) dX14_finishes_220 fg_X14_42_9 (o.ob w5) (by first | rfl | assumption) ?_
      refine X_aload_n (pc := 223) 4 dX14_finishes_223 rfl rfl ?_
      refine X_getfield (pc := 224) dX14_finishes_224 fg_X14_55_9 (o.ob w5) (by first | rfl | assumption) ?_
      refine X_ivv (pc := 227) _ dX14_finishes_227 cv_X14_81_3 (XW.cv w5) rfl (times_ok g w5 (P := B + 26) (Q := B + 10) o.mo o.pt (by omega) (by omega) (by omega) (by omega) xb5 okc (mP_on GP_on _) vP5) nX5_times (Nat.le_of_ble_eq_true rfl) (Nat.le_of_ble_eq_true rfl) (by dsimp only; omega) (by dsimp only; omega) (fun h6 q6 => ?_)
      obtain ⟨R6, r6, vM, w6⟩ := q6
      have fr6 : FrO B R R6 S S3 F F3 := fr5.trans ⟨fun j hj => r6 j (by have a := obR_ne hj; exact tmS_f (ecS_f (by omega) (by omega) (by omega) (by omega)) (by omega)), fun _ _ => rfl, fun _ _ _ _ => rfl⟩
      have xb6 : XB R6 := f.2.1.ob hB fr6.1
      have c6 : R6 81 = c := by rw [r6 _ (tmS_f (ecS_f (by omega) (by omega) (by omega) (by omega)) (by omega))]; exact c5
      have z6 : R6 82 = z := by rw [r6 _ (tmS_f (ecS_f (by omega) (by omega) (by omega) (by omega)) (by omega))]; exact z5
      have vC6 := vC5.tm (Q := B + 26) (by omega) (by omega) r6
      have vZ6 := vZ5.tm (Q := B + 26) (by omega) (by omega) r6
      have vW6 := vW.tm (Q := B + 26) (by omega) (by omega) r6
      refine X_aload_n (pc := 230) 4 dX14_finishes_230 rfl rfl ?_
      refine X_getfield (pc := 231) dX14_finishes_231 fg_X14_58_9 (o.ob w6) (by first | rfl | assumption) ?_
      refine X_aload_n (pc := 234) 4 dX14_finishes_234 rfl rfl ?_
      refine X_getfield (pc := 235) dX14_finishes_235 fg_X14_52_9 (o.ob w6) (by first | rfl | assumption) ?_
      refine X_aload_n (pc := 238) 4 dX14_finishes_238 rfl rfl ?_
      refine X_getfield (pc := 239) dX14_finishes_239 fg_X14_55_9 (o.ob w6) (by first | rfl | assumption) ?_
      refine X_ivv (pc := 242) _ dX14_finishes_242 cv_X14_172_3 (XW.cv w6) rfl (add_ok g w6 (P := B + 22) (Q := B + 26) o.wk o.mo (by omega) (by omega) (by omega) xb6 (by omega) (mP_on GP_on _) (mP_on (mP_on GP_on _) _) vW6 vM) nX5_add (Nat.le_of_ble_eq_true rfl) (Nat.le_of_ble_eq_true rfl) (by dsimp only; omega) (by dsimp only; omega) (fun h7 q7 => ?_)
      obtain ⟨R7, r7, vW7, w7⟩ := q7
      have fr7 : FrO B R R7 S S3 F F3 := fr6.trans ⟨fun j hj => r7 j (by have a := obR_ne hj; exact ecS_f (by omega) (by omega) (by omega) (by omega)), fun _ _ => rfl, fun _ _ _ _ => rfl⟩
      have c7 : R7 81 = c := by rw [r7 _ (ecS_f (by omega) (by omega) (by omega) (by omega))]; exact c6
      have z7 : R7 82 = z := by rw [r7 _ (ecS_f (by omega) (by omega) (by omega) (by omega))]; exact z6
      have vC7 := vC6.ec (Q := B + 22) (by omega) (by omega) r7
      have vZ7 := vZ6.ec (Q := B + 22) (by omega) (by omega) r7
      refine X_new tyX7 (ci := 5) (fs := [.null, .null, .null]) (pc := 245) dX14_finishes_245 rfl in_X7 tyX7_ok q612 q319 q110 dfX7 (by dsimp only; omega) (by dsimp only; omega) (fun b hb => ?_)
      refine X_dup (pc := 248) dX14_finishes_248 rfl ?_
      refine X_iqv (pc := 249) _ dX14_finishes_249 cin_X14_39 rfl (pointInit_ok g (hset_self _ _ _)) nX7_init (Nat.le_of_ble_eq_true rfl) (Nat.le_of_ble_eq_true rfl) (by dsimp only; omega) (by dsimp only; omega) (fun h8 q8 => ?_)
      obtain ⟨x, y, t, hx, hy, ht, xy, xt, yt, rfl⟩ := q8
      obtain ⟨kd8, A8, O8, R8, p84, ng8, a84, gw8, nr8, w8⟩ := w7.addPt (P := 84) (by decide) (fun j h1 h2 => ⟨freeT (by omega) (by omega), k84 j h1 (by omega)⟩) hb hx hy ht xy xt yt
      have G8 : Gw T80 kd A O kd8 A8 O8 := gw8 T80 kd A O f.1 (fun j h1 h2 => T80_t (by omega))
      have fr8 : FrO B R R8 S S3 F F3 := fr7.trans ⟨fun j hj => nr8 j (by have a := obR_ne hj; omega), fun _ _ => rfl, fun _ _ _ _ => rfl⟩
      generalize hset (hset (hset (hset (hset h7 b _) x _) y _) t _) b _ = h8 at w8 ⊢
      have aa : ∀ j, ¬ (84 ≤ j ∧ j ≤ 84 + 3) → A j = A8 j := fun j hj => (ng8 j hj).2.1.symm
      have o8 : ObK kd8 A8 O8 B lv := o.gw G8 fun j hj => T80_f (by omega)
      refine X_astore (pc := 252) (L' := [(10, .ref _), (9, .ref _), (8, .ref _), (7, .int _), (6, .ref _), (0, .ref _), (1, .ref _), (2, .int _), (3, .int _), (4, .ref _), (5, .ref _)]) dX14_finishes_252 (Nat.le_of_ble_eq_true rfl) rfl ?_
      rw [← a84, aa 82 (by decide), aa 81 (by decide), aa 80 (by decide), aa B (by omega), aa 55 (by decide), aa 56 (by decide), aa 58 (by decide)]
      have vv : ∀ {P : Nat} {D : PP}, 88 ≤ P → PtV R7 P D → PtV R8 P D := fun {P D} hP hv => by unfold PtV; rw [nr8 _ (by omega), nr8 _ (by omega), nr8 _ (by omega)]; exact hv
      exact finLate w8 o8 s' ((f.gw s' G8).fr s' fr8) hel p84 (by rw [(ng8 81 (by decide)).1]; exact k81) (by rw [(ng8 82 (by decide)).1]; exact k82) (c := c) (z := z) (by rw [nr8 _ (by omega)]; exact c7) (by rw [nr8 _ (by omega)]; exact z7) hcn.symm hzn.symm hcq hzq (vv (by omega) vW7) (vv (by omega) vC7) (vv (by omega) vZ7) (K.tr G8 fr8) (by dsimp only; omega) (by dsimp only; omega)
    · rw [if_neg hzq] at er2
      subst er2
      refine X_if_ne (pc := 155) 168 dX14_finishes_155 (by decide) (fun q => absurd rfl q) (fun _ => ?_)
      exact bad _ _ _ R2 h2 (by dsimp only; omega) (by dsimp only; omega) w2 fr2 (fun q => hzq q.2) rfl
  · rw [if_neg hcq] at er1
    subst er1
    refine X_if_eq (pc := 131) 158 dX14_finishes_131 (by decide) (fun _ => ?_) (fun q => absurd rfl q)
    exact bad _ _ _ R1 h1 (by dsimp only; omega) (by dsimp only; omega) w1 fr1 (fun q => hcq q.1) rfl
end XFin3
