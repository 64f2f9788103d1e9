set_option maxRecDepth 100000
/-! VeilMint's keys of the first type: finishing, the proof -/
section XFin2
variable {kd kd' : Nat → KD} {A A' : Nat → Nat} {X : AH} {R R' : Nat → Nat} {S S' : Nat → List Int32} {O O' : Nat → AC} {F F' : Nat → Int32} {h : AH} {B : Nat} {lv : Int32} {Q : Outcome → AH → Prop} {T : List Int32} {sk a many : Nat} {kp : Nat → Nat} {inp : Nat → List Int32} {g : GX}
theorem beR_o {P Q j : Nat} (hj : ¬ (P < j ∧ j ≤ P + 3)) : beR P Q R j = R j := by
  unfold beR rCp
  rw [up_ne (by omega), up_ne (by omega), up_ne (by omega)]
theorem beR_v {P Q : Nat} {D : PP} (hPQ : P + 4 ≤ Q ∨ Q + 4 ≤ P) (hv : PtV R Q D) : PtV (beR P Q R) P D := by
  unfold PtV beR rCp
  have e1 : up (up (up R (P + 1) (R (Q + 1))) (P + 2) (up R (P + 1) (R (Q + 1)) (Q + 2))) (P + 3) (up (up R (P + 1) (R (Q + 1))) (P + 2) (up R (P + 1) (R (Q + 1)) (Q + 2)) (Q + 3)) (P + 1) = R (Q + 1) := by rw [up_ne (by omega), up_ne (by omega), up_same]
  have e2 : up (up (up R (P + 1) (R (Q + 1))) (P + 2) (up R (P + 1) (R (Q + 1)) (Q + 2))) (P + 3) (up (up R (P + 1) (R (Q + 1))) (P + 2) (up R (P + 1) (R (Q + 1)) (Q + 2)) (Q + 3)) (P + 2) = R (Q + 2) := by rw [up_ne (by omega), up_same, up_ne (by omega)]
  have e3 : up (up (up R (P + 1) (R (Q + 1))) (P + 2) (up R (P + 1) (R (Q + 1)) (Q + 2))) (P + 3) (up (up R (P + 1) (R (Q + 1))) (P + 2) (up R (P + 1) (R (Q + 1)) (Q + 2)) (Q + 3)) (P + 3) = R (Q + 3) := by rw [up_same, up_ne (by omega), up_ne (by omega)]
  rw [e1, e2, e3]
  exact hv
/-- the composites -/
noncomputable def finC (T : List Int32) (sk : Nat) (kp : Nat → Nat) (inp : Nat → List Int32) (many : Nat) : PP := cpt (cD (en (mP sk GP)) (finM kp inp) (finE T)) (finM kp inp) many
noncomputable def finZ (T : List Int32) (sk : Nat) (kp : Nat → Nat) (inp : Nat → List Int32) (many : Nat) : PP := cpt (cD (en (mP sk GP)) (finM kp inp) (finE T)) (finE T) many
theorem finC_on : OnP (finC T sk kp inp many) := cpt_on fun i _ => mP_on (h2p_on _) _
theorem finZ_on : OnP (finZ T sk kp inp many) := cpt_on fun i _ => eltP_on _ _
set_option maxHeartbeats 16000000 in
theorem finLate (w : XW kd A X R S O F h) (o : ObK kd A O B lv) (s : FinS T sk kp inp a many B) (f : FinH kd A O R S F T sk kp inp a many B) (hel : ∀ i, i < many → finE T i ≠ none) (p84 : PtK kd A O 84) (k81 : kd 81 = (2, 0, 12)) (k82 : kd 82 = (2, 0, 12)) {c z : Nat} (hc : R 81 = c) (hz : R 82 = z) (hcn : c = num T (49 * many) 48) (hzn : z = num T (49 * many + 48) 48) (hcq : c < qP) (hzq : z < qP)
    (vW : PtV R (B + 22) (adP (mP z GP) (mP c (mP sk GP)))) (vC : PtV R (B + 14) (finC T sk kp inp many)) (vZ : PtV R (B + 18) (finZ T sk kp inp many)) (K : FinK Q kd A X O R S F T sk kp inp many B) {k0 n0 : Nat} (hk0 : k0 + 8 ≤ 80) (hn0 : n0 + 512 ≤ 5000) {r7 : Int32} {a6 : Nat} :
    XX g MX14_finishes ({ frames := 10, cells := 80, slots := 5000, locals := 225 } : Room) Q k0 n0 254 [(10, .ref (A 84)), (9, .ref (A 82)), (8, .ref (A 81)), (7, .int r7), (6, .ref a6), (0, .ref (A B)), (1, .ref (A 55)), (2, .int (nI a)), (3, .int (nI many)), (4, .ref (A 56)), (5, .ref (A 58))] [] h := by
  have s' := s
  obtain ⟨hBT, ⟨hlT, hlT2⟩, ⟨hm, ham, hB, hB2⟩, hpk, hin⟩ := s
  have onC := finC_on (T := T) (sk := sk) (kp := kp) (inp := inp) (many := many)
  have onZ := finZ_on (T := T) (sk := sk) (kp := kp) (inp := inp) (many := many)
  have hisp : ¬ isp (mP sk GP) (finC T sk kp inp many) (finZ T sk kp inp many) c z → FBad T sk kp inp many := fun q => by
    rw [hcn, hzn] at q
    exact Or.inr (Or.inr (Or.inr (Or.inl q)))
  have hgood : isp (mP sk GP) (finC T sk kp inp many) (finZ T sk kp inp many) c z → (∀ i, i < many → finT T kp i ≠ none) → ¬ FBad T sk kp inp many := fun q q2 => by
    rw [hcn] at hcq
    rw [hzn] at hzq
    rw [hcn, hzn] at q
    rintro (⟨i, hi, e⟩ | e | e | e | ⟨i, hi, e⟩)
    · exact hel i hi e
    · omega
    · omega
    · exact e q
    · exact q2 i hi e
  generalize finC T sk kp inp many = C at *
  generalize finZ T sk kp inp many = Z at *
  refine X_aload (pc := 254) 0 dX14_finishes_254 rfl ?_
  refine X_aload_n (pc := 256) 5 dX14_finishes_256 rfl rfl ?_
  refine X_getfield (pc := 257) dX14_finishes_257 fg_X14_52_9 (o.ob w) (by first | rfl | assumption) ?_
  refine X_ivv (pc := 260) _ dX14_finishes_260 cv_X14_208_5 (PtK.c p84 w) rfl (be_ok g w (P := 84) (Q := B + 22) p84 o.wk) nX7_be (Nat.le_of_ble_eq_true rfl) (Nat.le_of_ble_eq_true rfl) (by dsimp only; omega) (by dsimp only; omega) (fun h1 w1 => ?_)
  have vT := beR_v (R := R) (P := 84) (Q := B + 22) (by omega) vW
  have b1 : ∀ j, ¬ (84 < j ∧ j ≤ 84 + 3) → beR 84 (B + 22) R j = R j := fun j hj => beR_o hj
  generalize beR 84 (B + 22) R = R1 at w1 vT b1
  have fr1 : FrO B R R1 S S F F := ⟨fun j hj => b1 j (by have a := obR_ne hj; omega), fun _ _ => rfl, fun _ _ _ _ => rfl⟩
  have xb1 : XB R1 := f.2.1.ob hB fr1.1
  have c1 : R1 81 = c := by rw [b1 _ (by omega)]; exact hc
  have z1 : R1 82 = z := by rw [b1 _ (by omega)]; exact hz
  have vC1 : PtV R1 (B + 14) C := by unfold PtV; rw [b1 _ (by omega), b1 _ (by omega), b1 _ (by omega)]; exact vC
  have vZ1 : PtV R1 (B + 18) Z := by unfold PtV; rw [b1 _ (by omega), b1 _ (by omega), b1 _ (by omega)]; exact vZ
  have okz : OpE kd A X R1 S O F (tmS (B + 22)) (A 82) 12 z := by
    rw [← z1]
    exact OpE.g (mv := qP) (St.q k82) (tmS_f (ecS_f (by omega) (by omega) (by omega) (by omega)) (by omega))
  refine X_aload_n (pc := 263) 5 dX14_finishes_263 rfl rfl ?_
  refine X_getfield (pc := 264) dX14_finishes_264 fg_X14_58_9 (o.ob w1) (by first | rfl | assumption) ?_
  refine X_aload (pc := 267) 1 dX14_finishes_267 rfl ?_
  refine X_aload_n (pc := 269) 5 dX14_finishes_269 rfl rfl ?_
  refine X_getfield (pc := 270) dX14_finishes_270 fg_X14_46_9 (o.ob w1) (by first | rfl | assumption) ?_
  refine X_aload_n (pc := 273) 5 dX14_finishes_273 rfl rfl ?_
  refine X_getfield (pc := 274) dX14_finishes_274 fg_X14_52_9 (o.ob w1) (by first | rfl | assumption) ?_
  refine X_ivv (pc := 277) _ dX14_finishes_277 cv_X14_81_3 (XW.cv w1) rfl (times_ok g w1 (P := B + 22) (Q := B + 14) o.wk o.co (by omega) (by omega) (by omega) (by omega) xb1 okz onC vC1) nX5_times (Nat.le_of_ble_eq_true rfl) (Nat.le_of_ble_eq_true rfl) (by dsimp only; omega) (by dsimp only; omega) (fun h2 q2 => ?_)
  obtain ⟨R2, r2, vW2, w2⟩ := q2
  have fr2 : FrO B R R2 S S F F := fr1.trans ⟨fun j hj => r2 j (by have a := obR_ne hj; exact tmS_f (ecS_f (by omega) (by omega) (by omega) (by omega)) (by omega)), fun _ _ => rfl, fun _ _ _ _ => rfl⟩
  have xb2 : XB R2 := f.2.1.ob hB fr2.1
  have c2 : R2 81 = c := by rw [r2 _ (tmS_f (ecS_f (by omega) (by omega) (by omega) (by omega)) (by omega))]; exact c1
  have vC2 := vC1.tm (Q := B + 22) (by omega) (by omega) r2
  have vZ2 := vZ1.tm (Q := B + 22) (by omega) (by omega) r2
  have vT2 := vT.tm (Q := B + 22) (by omega) (by omega) r2
  have okc : OpE kd A X R2 S O F (tmS (B + 26)) (A 81) 12 c := by
    rw [← c2]
    exact OpE.g (mv := qP) (St.q k81) (tmS_f (ecS_f (by omega) (by omega) (by omega) (by omega)) (by omega))
  refine X_aload_n (pc := 280) 5 dX14_finishes_280 rfl rfl ?_
  refine X_getfield (pc := 281) dX14_finishes_281 fg_X14_58_9 (o.ob w2) (by first | rfl | assumption) ?_
  refine X_aload (pc := 284) 2 dX14_finishes_284 rfl ?_
  refine X_aload_n (pc := 286) 5 dX14_finishes_286 rfl rfl ?_
  refine X_getfield (pc := 287) dX14_finishes_287 fg_X14_49_9 (o.ob w2) (by first | rfl | assumption) ?_
  refine X_aload_n (pc := 290) 5 dX14_finishes_290 rfl rfl ?_
  refine X_getfield (pc := 291) dX14_finishes_291 fg_X14_55_9 (o.ob w2) (by first | rfl | assumption) ?_
  refine X_ivv (pc := 294) _ dX14_finishes_294 cv_X14_81_3 (XW.cv w2) rfl (times_ok g w2 (P := B + 26) (Q := B + 18) o.mo o.ev (by omega) (by omega) (by omega) (by omega) xb2 okc onZ vZ2) nX5_times (Nat.le_of_ble_eq_true rfl) (Nat.le_of_ble_eq_true rfl) (by dsimp only; omega) (by dsimp only; omega) (fun h3 q3 => ?_)
  obtain ⟨R3, r3, vM3, w3⟩ := q3
  have fr3 : FrO B R R3 S S F F := fr2.trans ⟨fun j hj => r3 j (by have a := obR_ne hj; exact tmS_f (ecS_f (by omega) (by omega) (by omega) (by omega)) (by omega)), fun _ _ => rfl, fun _ _ _ _ => rfl⟩
  have xb3 : XB R3 := f.2.1.ob hB fr3.1
  have c3 : R3 81 = c := by rw [r3 _ (tmS_f (ecS_f (by omega) (by omega) (by omega) (by omega)) (by omega))]; exact c2
  have vC3 := vC2.tm (Q := B + 26) (by omega) (by omega) r3
  have vZ3 := vZ2.tm (Q := B + 26) (by omega) (by omega) r3
  have vT3 := vT2.tm (Q := B + 26) (by omega) (by omega) r3
  have vW3 := vW2.tm (Q := B + 26) (by omega) (by omega) r3
  refine X_aload_n (pc := 297) 5 dX14_finishes_297 rfl rfl ?_
  refine X_getfield (pc := 298) dX14_finishes_298 fg_X14_58_9 (o.ob w3) (by first | rfl | assumption) ?_
  refine X_aload_n (pc := 301) 5 dX14_finishes_301 rfl rfl ?_
  refine X_getfield (pc := 302) dX14_finishes_302 fg_X14_52_9 (o.ob w3) (by first | rfl | assumption) ?_
  refine X_aload_n (pc := 305) 5 dX14_finishes_305 rfl rfl ?_
  refine X_getfield (pc := 306) dX14_finishes_306 fg_X14_55_9 (o.ob w3) (by first | rfl | assumption) ?_
  refine X_ivv (pc := 309) _ dX14_finishes_309 cv_X14_172_3 (XW.cv w3) rfl (add_ok g w3 (P := B + 22) (Q := B + 26) o.wk o.mo (by omega) (by omega) (by omega) xb3 (by omega) (mP_on onC _) (mP_on onZ _) vW3 vM3) nX5_add (Nat.le_of_ble_eq_true rfl) (Nat.le_of_ble_eq_true rfl) (by dsimp only; omega) (by dsimp only; omega) (fun h4 q4 => ?_)
  obtain ⟨R4, r4, vU, w4⟩ := q4
  have fr4 : FrO B R R4 S S F F := fr3.trans ⟨fun j hj => r4 j (by have a := obR_ne hj; exact ecS_f (by omega) (by omega) (by omega) (by omega)), fun _ _ => rfl, fun _ _ _ _ => rfl⟩
  have c4 : R4 81 = c := by rw [r4 _ (ecS_f (by omega) (by omega) (by omega) (by omega))]; exact c3
  have vC4 := vC3.ec (Q := B + 22) (by omega) (by omega) r4
  have vZ4 := vZ3.ec (Q := B + 22) (by omega) (by omega) r4
  have vT4 := vT3.ec (Q := B + 22) (by omega) (by omega) r4
  have e6 : S (B + 6) = en (mP sk GP) := f.2.2.2.1
  refine X_aload_n (pc := 312) 5 dX14_finishes_312 rfl rfl ?_
  refine X_aload (pc := 313) 0 dX14_finishes_313 rfl ?_
  refine X_aload_n (pc := 315) 5 dX14_finishes_315 rfl rfl ?_
  refine X_getfield (pc := 316) dX14_finishes_316 fg_X14_52_9 (o.ob w4) (by first | rfl | assumption) ?_
  refine X_aload_n (pc := 319) 5 dX14_finishes_319 rfl rfl ?_
  refine X_getfield (pc := 320) dX14_finishes_320 fg_X14_18_9 (o.ob w4) (by first | rfl | assumption) ?_
  have ch5 := challengeX_ok g w4 o (PT := 84) (PU := B + 22) p84 o.wk (by omega) (by omega) (B + 4) o.su (by rw [e6]; exact en_l49 hpk) (by rw [e6]; exact en_B' _) vC4 vZ4 vT4 vU
  rw [e6] at ch5
  have ispN : ¬ (C ≠ none ∧ Z ≠ none ∧ adP (mP z GP) (mP c (mP sk GP)) ≠ none ∧ adP (mP z C) (mP c Z) ≠ none) → FBad T sk kp inp many := fun q => hisp fun q2 => q ⟨q2.1, q2.2.1, q2.2.2.1, q2.2.2.2.1⟩
  refine X_ivvT (pc := 323) _ dX14_finishes_323 cv_X14_182_9 (o.ob w4) rfl (ch5) nX14_challenge (Nat.le_of_ble_eq_true rfl) (Nat.le_of_ble_eq_true rfl) (by dsimp only; omega) (by dsimp only; omega) (fun h5 q5 => ?_) (fun hx qx => XT_out (fun _ hq => absurd hq List.not_mem_nil) (by dsimp only; omega) (by dsimp only; omega) (by obtain ⟨z1, R', S', F', a1, a2, a3, a4, a5⟩ := qx; exact K.2 kd A O R' S' F' hx f.1 (fr4.trans ⟨fun j hj => a1 j (cvS_f (obR_ne hj).1), fun j hj => a2 j (by unfold chS; simp only [Bool.or_eq_false_iff, beq_eq_false_iff_ne]; have a := obS_ne hj; exact ⟨a.1, by omega⟩), a3⟩) (ispN z1) a4 a5))
  obtain ⟨⟨n1, n2, n3, n4⟩, R5, S5, F5, r5, s5, f5, ec, w5⟩ := q5
  rw [show h2s (chmsg (en (mP sk GP)) (en C) (en Z) (en (adP (mP z GP) (mP c (mP sk GP)))) (en (adP (mP z C) (mP c Z)))) = chal (mP sk GP) C Z (adP (mP z GP) (mP c (mP sk GP))) (adP (mP z C) (mP c Z)) from rfl] at ec
  have fr5 : FrO B R R5 S S5 F F5 := fr4.trans ⟨fun j hj => r5 j (by unfold chR; simp only [Bool.or_eq_false_iff, beq_eq_false_iff_ne]; have a := obR_ne hj; exact ⟨cvS_f a.1, by omega⟩), fun j hj => s5 j (by unfold chS; simp only [Bool.or_eq_false_iff, beq_eq_false_iff_ne]; have a := obS_ne hj; exact ⟨a.1, by omega⟩), fun j a b _ => f5 j a b⟩
  have c5 : R5 81 = c := by rw [r5 _ (by unfold chR; simp only [Bool.or_eq_false_iff, beq_eq_false_iff_ne]; exact ⟨cvS_f (by omega), by omega⟩)]; exact c4
  have opa := OpX.n2 w5 (B + 4) o.su
  have opb := OpX.n2 w5 81 k81
  rw [ec] at opa
  rw [c5] at opb
  refine X_aload_n (pc := 326) 5 dX14_finishes_326 rfl rfl ?_
  refine X_getfield (pc := 327) dX14_finishes_327 fg_X14_18_9 (o.ob w5) (by first | rfl | assumption) ?_
  refine X_aload (pc := 330) 2 dX14_finishes_330 rfl ?_
  refine X_isi (pc := 332) _ dX14_finishes_332 cs_X14_211 rfl (xcmpW g opa opb (by decide)) nX6_compare (Nat.le_of_ble_eq_true rfl) (Nat.le_of_ble_eq_true rfl) (by dsimp only; omega) (by dsimp only; omega) (fun r6 h6 q6 => ?_)
  obtain ⟨er, rfl⟩ := q6
  by_cases ce : chal (mP sk GP) C Z (adP (mP z GP) (mP c (mP sk GP))) (adP (mP z C) (mP c Z)) = c
  · rw [cmpN_eq0.mpr ce] at er
    subst er
    refine X_if_eq (pc := 335) 348 dX14_finishes_335 (by decide) (fun _ => ?_) (fun q => absurd rfl q)
    refine XX.pick (L' := [(0, .ref _), (1, .ref _), (2, .int _), (3, .int _), (4, .ref _), (5, .ref _)]) [5, 6, 7, 8, 9, 10] rfl ?_
    exact finTail w5 o s' (f.fr s' fr5) hel (hgood ⟨n1, n2, n3, n4, ce⟩) (K.tr f.1 fr5) (by dsimp only; omega) (by dsimp only; omega)
  · have er0 : r6 ≠ 0 := fun q => ce (cmpN_eq0.mp (er.symm.trans q))
    refine X_if_eq (pc := 335) 348 dX14_finishes_335 (by decide) (fun q => absurd q er0) (fun _ => ?_)
    refine X_aload_n (pc := 338) 5 dX14_finishes_338 rfl rfl ?_
    refine X_getfield (pc := 339) dX14_finishes_339 fg_X14_62_9 (o.ob w5) (by first | rfl | assumption) ?_
    refine X_bipush (pc := 342) (x := (-4)) dX14_finishes_342 (by decide) ?_
    refine X_ivr (pc := 344) _ dX14_finishes_344 cv_X14_70_6 (XW.rf w5) rfl (as_ok g w5 (-4)) nX8_as (Nat.le_of_ble_eq_true rfl) (Nat.le_of_ble_eq_true rfl) (by dsimp only; omega) (by dsimp only; omega) (fun r7 h7 q7 => ?_)
    obtain ⟨rfl, w7⟩ := q7
    refine X_athrow (pc := 347) dX14_finishes_347 rfl (by dsimp only; omega) (by dsimp only; omega) ?_
    exact K.2 kd A O R5 S5 _ _ f.1 (fr5.why (-4)) (hisp fun q => ce q.2.2.2.2) (up_same _ _ _) w7
end XFin2
