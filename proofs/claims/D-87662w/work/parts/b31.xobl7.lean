set_option maxRecDepth 100000
/-! VeilMint's keys of the first type: finishing -/
def catX (inp : Nat → List Int32) (o : Nat → List Int32) : Nat → List Int32
  | 0 => []
  | n + 1 => catX inp o n ++ inp n ++ o n
theorem catX_len {inp o : Nat → List Int32} {a b : Nat} : ∀ n, (∀ i, i < n → (inp i).length = a ∧ (o i).length = b) → (catX inp o n).length = (a + b) * n
  | 0, _ => rfl
  | n + 1, h => by
    show (catX inp o n ++ inp n ++ o n).length = _
    rw [List.length_append, List.length_append, catX_len n (fun i hi => h i (by omega)), (h n (by omega)).1, (h n (by omega)).2, Nat.mul_succ]
    omega
theorem cpt_cg2 {d d' : Nat → Nat} {P P' : Nat → PP} : ∀ n, (∀ i, i < n → d i = d' i ∧ P i = P' i) → cpt d P n = cpt d' P' n
  | 0, _ => rfl
  | n + 1, h => by
    show adP _ _ = adP _ _
    rw [cpt_cg2 n (fun i hi => h i (by omega)), (h n (by omega)).1, (h n (by omega)).2]
/-- blinded inputs, and tokens -/
noncomputable def finM (kp : Nat → Nat) (inp : Nat → List Int32) (i : Nat) : PP := mP (kp i) (h2p (inp i))
noncomputable def finT (T : List Int32) (kp : Nat → Nat) (i : Nat) : PP := mP (invM qP (kp i)) (eltP T (49 * i))
noncomputable def finE (T : List Int32) (i : Nat) : PP := eltP T (49 * i)
noncomputable def FBad (T : List Int32) (sk : Nat) (kp : Nat → Nat) (inp : Nat → List Int32) (many : Nat) : Prop :=
  (∃ i, i < many ∧ finE T i = none) ∨ qP ≤ num T (49 * many) 48 ∨ qP ≤ num T (49 * many + 48) 48 ∨
  ¬ isp (mP sk GP) (cpt (cD (en (mP sk GP)) (finM kp inp) (finE T)) (finM kp inp) many) (cpt (cD (en (mP sk GP)) (finM kp inp) (finE T)) (finE T) many) (num T (49 * many) 48) (num T (49 * many + 48) 48) ∨ (∃ i, i < many ∧ finT T kp i = none)
noncomputable def finO (T : List Int32) (kp : Nat → Nat) (inp : Nat → List Int32) (many : Nat) : List Int32 := catX inp (fun i => outB (inp i) (finT T kp i)) many
/-- what is known of the askings -/
def FinS (T : List Int32) (sk : Nat) (kp : Nat → Nat) (inp : Nat → List Int32) (a many B : Nat) : Prop :=
  IsB T ∧ (49 * many + 96 ≤ T.length ∧ T.length ≤ 1200) ∧ (many ≤ 8 ∧ a + many ≤ 60 ∧ 100 ≤ B ∧ B + 30 ≤ 1000) ∧ mP sk GP ≠ none ∧ ∀ i, i < many → 0 < kp i ∧ kp i < qP ∧ (inp i).length = 98 ∧ IsB (inp i) ∧ finM kp inp i ≠ none
def FinH (kd : Nat → KD) (A : Nat → Nat) (O : Nat → AC) (R : Nat → Nat) (S : Nat → List Int32) (F : Nat → Int32) (T : List Int32) (sk : Nat) (kp : Nat → Nat) (inp : Nat → List Int32) (a many B : Nat) : Prop :=
  Gw T80 kd A O kd A O ∧ XB R ∧ S 56 = T ∧ S (B + 6) = en (mP sk GP) ∧ a + many ≤ (F 31).toNatClampNeg ∧
  ∀ i, i < many → (∃ op, AsK kd A O (1000 + 10 * (a + i)) B 12 op) ∧ R (1000 + 10 * (a + i) + 2) = kp i ∧ S (1000 + 10 * (a + i) + 1) = inp i
def FinK (Q : Outcome → AH → Prop) (kd : Nat → KD) (A : Nat → Nat) (X : AH) (O : Nat → AC) (R : Nat → Nat) (S : Nat → List Int32) (F : Nat → Int32) (T : List Int32) (sk : Nat) (kp : Nat → Nat) (inp : Nat → List Int32) (many B : Nat) : Prop :=
  (∀ kd' A' O' R' S' F' h', Gw T80 kd A O kd' A' O' → FrO B R R' S S' F F' → ¬ FBad T sk kp inp many → S' 58 = finO T kp inp many → XW kd' A' X R' S' O' F' h' → Q (.returned none) h') ∧
  ∀ kd' A' O' R' S' F' h', Gw T80 kd A O kd' A' O' → FrO B R R' S S' F F' → FBad T sk kp inp many → F' 24 = -4 → XW kd' A' X R' S' O' F' h' → Q (.threw (A 50)) h'
theorem Gw.trans {D : Nat → Bool} {kd kd' kd'' : Nat → KD} {A A' A'' : Nat → Nat} {O O' O'' : Nat → AC} (a : Gw D kd A O kd' A' O') (b : Gw D kd' A' O' kd'' A'' O'') : Gw D kd A O kd'' A'' O'' :=
  ⟨fun j hj => ⟨(b.1 j hj).1.trans (a.1 j hj).1, (b.1 j hj).2.1.trans (a.1 j hj).2.1, (b.1 j hj).2.2.trans (a.1 j hj).2.2⟩, b.2⟩
theorem Gw.self {D : Nat → Bool} {kd kd' : Nat → KD} {A A' : Nat → Nat} {O O' : Nat → AC} (a : Gw D kd A O kd' A' O') : Gw D kd' A' O' kd' A' O' := ⟨fun _ _ => ⟨rfl, rfl, rfl⟩, a.2⟩
section XFin
variable {kd kd' : Nat → KD} {A A' : Nat → Nat} {X : AH} {R R' : Nat → Nat} {S S' : Nat → List Int32} {O O' : Nat → AC} {F F' : Nat → Int32} {h : AH} {B : Nat} {lv : Int32} {Q : Outcome → AH → Prop} {T : List Int32} {sk a many : Nat} {kp : Nat → Nat} {inp : Nat → List Int32} {g : GX}
theorem obR_f {j : Nat} (h : ¬ (16 ≤ j ∧ j ≤ 23) ∧ ¬ (65 ≤ j ∧ j ≤ 71) ∧ ¬ (B + 3 ≤ j ∧ j ≤ B + 5) ∧ ¬ (B + 10 ≤ j ∧ j ≤ B + 29) ∧ ¬ (80 ≤ j ∧ j < 100)) : obR B j = false := by
  unfold obR
  simp only [Bool.or_eq_false_iff, decide_eq_false_iff_not]
  exact h
theorem obS_f {j : Nat} (h : hX j = false ∧ j ≠ 58 ∧ ¬ (B + 7 ≤ j ∧ j ≤ B + 9) ∧ ¬ (80 ≤ j ∧ j < 100)) : obS B j = false := by
  unfold obS
  simp only [Bool.or_eq_false_iff, decide_eq_false_iff_not, beq_eq_false_iff_ne]
  exact h
theorem FinH.fr (f : FinH kd A O R S F T sk kp inp a many B) (s : FinS T sk kp inp a many B) (e : FrO B R R' S S' F F') : FinH kd A O R' S' F' T sk kp inp a many B := by
  obtain ⟨f1, f2, f3, f4, f5, f6⟩ := f
  obtain ⟨-, -, ⟨s1, s2, s3, s4⟩, -, -⟩ := s
  refine ⟨f1, f2.ob s3 e.1, ?_, ?_, ?_, fun i hi => ⟨(f6 i hi).1, ?_, ?_⟩⟩
  · rw [e.2.1 56 (obS_f ⟨hX56, by decide, by omega, by omega⟩)]; exact f3
  · rw [e.2.1 _ (obS_f ⟨hX_f (by omega), by omega, by omega, by omega⟩)]; exact f4
  · rw [e.2.2 31 (by decide) (by decide) (by decide)]; exact f5
  · rw [e.1 _ (obR_f (by omega))]; exact (f6 i hi).2.1
  · rw [e.2.1 _ (obS_f ⟨hX_f (by omega), by omega, by omega, by omega⟩)]; exact (f6 i hi).2.2
theorem FinH.gw (f : FinH kd A O R S F T sk kp inp a many B) (s : FinS T sk kp inp a many B) (e : Gw T80 kd A O kd' A' O') : FinH kd' A' O' R S F T sk kp inp a many B := by
  obtain ⟨f1, f2, f3, f4, f5, f6⟩ := f
  obtain ⟨-, -, ⟨s1, s2, s3, s4⟩, -, -⟩ := s
  refine ⟨e.self, f2, f3, f4, f5, fun i hi => ⟨?_, (f6 i hi).2⟩⟩
  obtain ⟨op, z⟩ := (f6 i hi).1
  exact ⟨op, z.gw e fun j hj => T80_f (by omega)⟩
theorem FinK.tr (f : FinK Q kd A X O R S F T sk kp inp many B) (e : Gw T80 kd A O kd' A' O') (r : FrO B R R' S S' F F') : FinK Q kd' A' X O' R' S' F' T sk kp inp many B := by
  refine ⟨fun k1 a1 o1 r1 s1 f1 h1 e1 r2 n1 n2 w1 => f.1 k1 a1 o1 r1 s1 f1 h1 (e.trans e1) (r.trans r2) n1 n2 w1, fun k1 a1 o1 r1 s1 f1 h1 e1 r2 n1 n2 w1 => ?_⟩
  rw [(e.1 50 (T80_f (by decide))).2.1]
  exact f.2 k1 a1 o1 r1 s1 f1 h1 (e.trans e1) (r.trans r2) n1 n2 w1
theorem XW.asks (w : XW kd A X R S O F h) : h (A 55) = some (Ar 5 60 (fun j => if j < (F 31).toNatClampNeg then some (A (1000 + 10 * j)) else none)) := w.o 55 (by decide) rfl
theorem XW.keys (w : XW kd A X R S O F h) : h (A 54) = some (Ar 4 6 (fun j => if j < (F 30).toNatClampNeg then some (A (100 + 100 * j)) else none)) := w.o 54 (by decide) rfl
theorem ask_at {j : Nat} (h60 : j < 60) (hj : j < (F 31).toNatClampNeg) : va_rf ((fun j => if j < (F 31).toNatClampNeg then some (A (1000 + 10 * j)) else none) (nI j).toNatClampNeg) = .ref (A (1000 + 10 * j)) := by
  show va_rf (if (nI j).toNatClampNeg < (F 31).toNatClampNeg then some (A (1000 + 10 * (nI j).toNatClampNeg)) else none) = _
  rw [nI_clamp (by omega), if_pos hj]
  rfl
set_option maxHeartbeats 16000000 in
theorem finTail (w : XW kd A X R S O F h) (o : ObK kd A O B lv) (s : FinS T sk kp inp a many B) (f : FinH kd A O R S F T sk kp inp a many B) (hel : ∀ i, i < many → finE T i ≠ none) (hok : (∀ i, i < many → finT T kp i ≠ none) → ¬ FBad T sk kp inp many) (K : FinK Q kd A X O R S F T sk kp inp many B) {k0 n0 : Nat} (hk0 : k0 + 8 ≤ 80) (hn0 : n0 + 512 ≤ 5000) :
    XX g MX14_finishes ({ frames := 10, cells := 80, slots := 5000, locals := 225 } : Room) Q k0 n0 348 [(0, .ref (A B)), (1, .ref (A 55)), (2, .int (nI a)), (3, .int (nI many)), (4, .ref (A 56)), (5, .ref (A 58))] [] h := by
  have s' := s
  obtain ⟨hBT, ⟨hlT, hlT2⟩, ⟨hm, ham, hB, hB2⟩, hpk, hin⟩ := s
  have lo : ∀ i, i ≤ many → (catX inp (fun i => outB (inp i) (finT T kp i)) i).length = 146 * i := fun i hi => catX_len (a := 98) (b := 48) i fun j hj => ⟨(hin j (by omega)).2.2.1, sha384_len _⟩
  have loop : ∀ m i, i + m = many → ∀ (R1 : Nat → Nat) (S1 : Nat → List Int32) (F1 : Nat → Int32) (h1 : AH), XW kd A X R1 S1 O F1 h1 → FrO B R R1 S S1 F F1 → (∀ j, j < i → finT T kp j ≠ none) → S1 58 = catX inp (fun i => outB (inp i) (finT T kp i)) i →
      XX g MX14_finishes ({ frames := 10, cells := 80, slots := 5000, locals := 225 } : Room) Q (k0 + i) (n0 + 64 * i) 351 [(11, .int (nI i)), (0, .ref (A B)), (1, .ref (A 55)), (2, .int (nI a)), (3, .int (nI many)), (4, .ref (A 56)), (5, .ref (A 58))] [] h1 := by
    intro m
    induction m with
    | zero =>
      intro i hi R1 S1 F1 h1 w1 fr1 hP s58
      have e : i = many := by omega
      subst e
      refine X_iload (pc := 351) 0 dX14_finishes_351 rfl ?_
      refine X_iload_n (pc := 353) 4 dX14_finishes_353 rfl rfl ?_
      refine X_cge (pc := 354) 479 dX14_finishes_354 (by decide) (by omega) (by omega) (fun _ => ?_) (fun c => absurd c (by omega))
      refine X_return (pc := 479) dX14_finishes_479 rfl (by dsimp only; omega) (by dsimp only; omega) ?_
      exact K.1 kd A O R1 S1 F1 h1 f.1 fr1 (hok hP) s58 w1
    | succ m ih =>
      intro i hi R1 S1 F1 h1 w1 fr1 hP s58
      have f1 := f.fr s' fr1
      obtain ⟨-, xb1, e56, e6, e31, fa⟩ := f1
      obtain ⟨⟨op, ak⟩, ekp, ein⟩ := fa i (by omega)
      obtain ⟨hk1, hk2, hl1, hb1, hM1⟩ := hin i (by omega)
      refine X_iload (pc := 351) 0 dX14_finishes_351 rfl ?_
      refine X_iload_n (pc := 353) 4 dX14_finishes_353 rfl rfl ?_
      refine X_cge (pc := 354) 479 dX14_finishes_354 (by decide) (by omega) (by omega) (fun c => absurd c (by omega)) (fun _ => ?_)
      refine X_aload_n (pc := 357) 2 dX14_finishes_357 rfl rfl ?_
      refine X_iload_n (pc := 358) 3 dX14_finishes_358 rfl rfl ?_
      refine X_iload (pc := 359) 0 dX14_finishes_359 rfl ?_
      refine X_iadd (pc := 361) dX14_finishes_361 ?_
      rw [show nI a + nI i = nI (a + i) from nI_add a i]
      refine X_aaload (pc := 362) dX14_finishes_362 (XW.asks w1) (fun _ => rfl) (vp_in_nI (by omega) (by omega)) ?_
      rw [ask_at (A := A) (F := F1) (by omega) (by omega)]
      generalize hC : 1000 + 10 * (a + i) = C at *
      have hC2 : 1000 ≤ C := by omega
      refine X_astore (pc := 363) (L' := [(12, .ref _), (11, .int _), (0, .ref _), (1, .ref _), (2, .int _), (3, .int _), (4, .ref _), (5, .ref _)]) dX14_finishes_363 (Nat.le_of_ble_eq_true rfl) rfl ?_
      refine X_aload_n (pc := 365) 2 dX14_finishes_365 rfl rfl ?_
      refine X_aload (pc := 366) 6 dX14_finishes_366 rfl ?_
      refine X_bipush (pc := 368) (x := 49) dX14_finishes_368 (by decide) ?_
      refine X_iload (pc := 370) 1 dX14_finishes_370 rfl ?_
      refine X_imul (pc := 372) dX14_finishes_372 ?_
      rw [show (49 : Int32) * nI i = nI (49 * i) from pk_mul 49 i]
      have rd2 := readO_ok g w1 o (P := B + 10) (kb := 56) (nb := 1200) (at' := 49 * i) o.pt (by omega) xb1 (w1.k 56 (by decide)) (by decide) (by rw [e56]; omega)
      rw [e56] at rd2
      refine X_aload_n (pc := 373) 2 dX14_finishes_373 rfl rfl ?_
      refine X_getfield (pc := 374) dX14_finishes_374 fg_X14_42_9 (o.ob w1) (by first | rfl | assumption) ?_
      refine X_ivvT (pc := 377) _ dX14_finishes_377 cv_X14_170_9 (o.ob w1) rfl (rd2) nX14_read (Nat.le_of_ble_eq_true rfl) (Nat.le_of_ble_eq_true rfl) (by dsimp only; omega) (by dsimp only; omega) (fun h2 q2 => ?_) (fun hx qx => absurd qx.1 (hel i (by omega)))
      obtain ⟨n1, R2, r2, v2, w2⟩ := q2
      have fr2 : FrO B R R2 S S1 F F1 := fr1.trans ⟨fun j hj => r2 j (by have a := obR_ne hj; exact ecS_f (by omega) (by omega) (by omega) (by omega)), fun _ _ => rfl, fun _ _ _ _ => rfl⟩
      have ekp2 : R2 (C + 2) = kp i := by rw [r2 _ (ecS_f (by omega) (by omega) (by omega) (by omega))]; exact ekp
      have op2 := OpX.n2 w2 (C + 2) ak.2.2.2
      rw [ekp2] at op2
      have hgc : Nat.gcd (kp i) qP = 1 := gcd_q (by omega) hk2
      refine X_aload_n (pc := 380) 2 dX14_finishes_380 rfl rfl ?_
      refine X_getfield (pc := 381) dX14_finishes_381 fg_X14_58_9 (o.ob w2) (by first | rfl | assumption) ?_
      refine X_getfield (pc := 384) dX14_finishes_384 fg_X14_89_3 (XW.cv w2) (by first | rfl | assumption) ?_
      refine X_aload (pc := 387) 0 dX14_finishes_387 rfl ?_
      refine X_getfield (pc := 389) dX14_finishes_389 fg_X14_205_8 (ak.c w2) (by first | rfl | assumption) ?_
      refine X_aload_n (pc := 392) 2 dX14_finishes_392 rfl rfl ?_
      refine X_getfield (pc := 393) dX14_finishes_393 fg_X14_15_9 (o.ob w2) (by first | rfl | assumption) ?_
      refine X_ivi (pc := 396) _ dX14_finishes_396 cv_X14_215_4 (MoK.ob (XW.mq w2) w2) rfl (xinvW g w2 w2.mq (B + 3) (St.q o.sc) op2 (Or.inl o.sc)) nX6_inverse (Nat.le_of_ble_eq_true rfl) (Nat.le_of_ble_eq_true rfl) (by dsimp only; omega) (by dsimp only; omega) (fun r3 h3 q3 => ?_)
      obtain ⟨v3, -, e3, q3⟩ := q3
      have e3 := e3 hgc
      obtain ⟨R3, eR3, o3, w3⟩ := XW.ab q3
      rw [e3] at eR3
      have fr3 : FrO B R R3 S S1 F F1 := fr2.trans ⟨fun j hj => by have a := obR_ne hj; exact o3 j (by omega), fun _ _ => rfl, fun _ _ _ _ => rfl⟩
      have xb3 : XB R3 := f.2.1.ob hB fr3.1
      have v3' : PtV R3 (B + 10) (eltP T (49 * i)) := by unfold PtV; rw [o3 _ (by omega), o3 _ (by omega), o3 _ (by omega)]; exact v2
      have ok3 : OpE kd A X R3 S1 O F1 (tmS (B + 22)) (A (B + 3)) 12 (invM qP (kp i)) := by
        rw [← eR3]
        exact OpE.g (mv := qP) (St.q o.sc) (tmS_f (ecS_f (by omega) (by omega) (by omega) (by omega)) (by omega))
      refine X_istore (pc := 399) (L' := [(13, .int _), (12, .ref _), (11, .int _), (0, .ref _), (1, .ref _), (2, .int _), (3, .int _), (4, .ref _), (5, .ref _)]) dX14_finishes_399 (Nat.le_of_ble_eq_true rfl) rfl ?_
      refine X_aload_n (pc := 401) 3 dX14_finishes_401 rfl rfl ?_
      refine X_getfield (pc := 402) dX14_finishes_402 fg_X14_58_9 (o.ob w3) (by first | rfl | assumption) ?_
      refine X_aload_n (pc := 405) 3 dX14_finishes_405 rfl rfl ?_
      refine X_getfield (pc := 406) dX14_finishes_406 fg_X14_15_9 (o.ob w3) (by first | rfl | assumption) ?_
      refine X_aload_n (pc := 409) 3 dX14_finishes_409 rfl rfl ?_
      refine X_getfield (pc := 410) dX14_finishes_410 fg_X14_42_9 (o.ob w3) (by first | rfl | assumption) ?_
      refine X_aload_n (pc := 413) 3 dX14_finishes_413 rfl rfl ?_
      refine X_getfield (pc := 414) dX14_finishes_414 fg_X14_52_9 (o.ob w3) (by first | rfl | assumption) ?_
      refine X_ivv (pc := 417) _ dX14_finishes_417 cv_X14_81_3 (XW.cv w3) rfl (times_ok g w3 (P := B + 22) (Q := B + 10) o.wk o.pt (by omega) (by omega) (by omega) (by omega) xb3 ok3 (eltP_on _ _) v3') nX5_times (Nat.le_of_ble_eq_true rfl) (Nat.le_of_ble_eq_true rfl) (by dsimp only; omega) (by dsimp only; omega) (fun h4 q4 => ?_)
      obtain ⟨R4, r4, v4, w4'⟩ := q4
      have v4 : PtV R4 (B + 22) (finT T kp i) := v4
      have w4 := w4'.nilS o.to
      have fr4 : FrO B R R4 S (up S1 (B + 9) []) F F1 := fr3.trans ⟨fun j hj => r4 j (by have a := obR_ne hj; exact tmS_f (ecS_f (by omega) (by omega) (by omega) (by omega)) (by omega)), fun j hj => up_ne (by have a := obS_ne hj; omega), fun _ _ _ _ => rfl⟩
      have l9 : (up S1 (B + 9) [] (B + 9)).length = 0 := by rw [up_same]; rfl
      refine X_aload_n (pc := 420) 3 dX14_finishes_420 rfl rfl ?_
      refine X_aload_n (pc := 421) 3 dX14_finishes_421 rfl rfl ?_
      refine X_getfield (pc := 422) dX14_finishes_422 fg_X14_52_9 (o.ob w4) (by first | rfl | assumption) ?_
      refine X_aload_n (pc := 425) 3 dX14_finishes_425 rfl rfl ?_
      refine X_getfield (pc := 426) dX14_finishes_426 fg_X14_34_9 (o.ob w4) (by first | rfl | assumption) ?_
      refine X_iconst (pc := 429) (x := 0) dX14_finishes_429 (by decide) ?_
      rw [show (0 : Int32) = nI (up S1 (B + 9) [] (B + 9)).length by rw [l9]; rfl]
      refine X_ivvT (pc := 430) _ dX14_finishes_430 cv_X14_129_9 (o.ob w4) rfl (writeO_ok g w4 o (P := B + 22) (kt := B + 9) (nt := 49) o.wk (by omega) o.to (by decide) (by rw [l9]; decide) v4) nX14_write (Nat.le_of_ble_eq_true rfl) (Nat.le_of_ble_eq_true rfl) (by dsimp only; omega) (by dsimp only; omega) (fun h5 q5 => ?_) (fun hx qx => XT_out (fun _ hq => absurd hq List.not_mem_nil) (by dsimp only; omega) (by dsimp only; omega) (by obtain ⟨z1, R', a1, a2⟩ := qx; exact K.2 kd A O R' _ _ hx f.1 ((fr4.trans ⟨fun j hj => a1 j (cvS_f (obR_ne hj).1), fun _ _ => rfl, fun _ _ _ _ => rfl⟩).why (-4)) (Or.inr (Or.inr (Or.inr (Or.inr ⟨i, by omega, z1⟩)))) (up_same _ _ _) a2))
      obtain ⟨hD, R5, r5, w5⟩ := q5
      rw [up_up', up_same, List.nil_append] at w5
      have fr5 : FrO B R R5 S (up S1 (B + 9) (en (finT T kp i))) F F1 := fr3.trans ⟨fun j hj => by have a := obR_ne hj; rw [r5 j (cvS_f a.1), r4 j (tmS_f (ecS_f (by omega) (by omega) (by omega) (by omega)) (by omega))], fun j hj => up_ne (by have a := obS_ne hj; omega), fun _ _ _ _ => rfl⟩
      refine X_sipush (pc := 433) (x := 146) dX14_finishes_433 (by decide) ?_
      refine X_iload (pc := 436) 2 dX14_finishes_436 rfl ?_
      refine X_imul (pc := 438) dX14_finishes_438 ?_
      rw [show (146 : Int32) * nI i = nI (146 * i) from pk_mul 146 i]
      refine X_istore (pc := 439) (L' := [(14, .int _), (13, .int _), (12, .ref _), (11, .int _), (0, .ref _), (1, .ref _), (2, .int _), (3, .int _), (4, .ref _), (5, .ref _)]) dX14_finishes_439 (Nat.le_of_ble_eq_true rfl) rfl ?_
      refine X_aload (pc := 441) 2 dX14_finishes_441 rfl ?_
      refine X_getfield (pc := 443) dX14_finishes_443 fg_X14_200_8 (ak.c w5) (by first | rfl | assumption) ?_
      refine X_iconst (pc := 446) (x := 0) dX14_finishes_446 (by decide) ?_
      refine X_aload (pc := 447) 9 dX14_finishes_447 rfl ?_
      refine X_iload (pc := 449) 0 dX14_finishes_449 rfl ?_
      refine X_bipush (pc := 451) (x := 98) dX14_finishes_451 (by decide) ?_
      obtain ⟨gi, ci, pi, -⟩ := w5.s (C + 1) ak.2.2.1
      obtain ⟨g5, c5, p5, -⟩ := w5.s 58 (w5.k 58 (by decide))
      have ei5 : up S1 (B + 9) (en (finT T kp i)) (C + 1) = inp i := by rw [up_ne (by omega)]; exact ein
      have e58 : up S1 (B + 9) (en (finT T kp i)) 58 = catX inp (fun i => outB (inp i) (finT T kp i)) i := by rw [up_ne (by omega)]; exact s58
      have lo1 := lo i (by omega)
      refine X_copyI (pc := 453) (0) (146 * i) (98) dX14_finishes_453 q810 (Or.inr rfl) ci c5 rfl rfl rfl (by omega) (by omega) ⟨by omega, by omega⟩ (Nat.le_of_ble_eq_true rfl) (Nat.le_of_ble_eq_true rfl) ?_
      have w6 := w5.cpy (ks := C + 1) (ns := 98) (sN := 0) (dN := 146 * i) (n := 98) (w5.k 58 (by decide)) pi p5 (by rw [e58, lo1]; exact Nat.le_refl _) (by rw [ei5, hl1]; decide) (by omega)
      rw [e58, ei5, List.take_of_length_le (Nat.le_of_eq lo1), sub_all hl1] at w6
      generalize hset h5 (A 58) (Ai false 2 1200 (va_cpy gi g5 0 (146 * i) 98)) = h6 at w6
      generalize hS6 : up (up S1 (B + 9) (en (finT T kp i))) 58 (catX inp (fun i => outB (inp i) (finT T kp i)) i ++ inp i) = S6 at w6
      have ei6 : S6 (C + 1) = inp i := by rw [← hS6, up_ne (by omega)]; exact ei5
      have e96 : S6 (B + 9) = en (finT T kp i) := by rw [← hS6, up_ne (by omega), up_same]
      have e586 : S6 58 = catX inp (fun i => outB (inp i) (finT T kp i)) i ++ inp i := by rw [← hS6, up_same]
      have lo2 : (S6 58).length = 146 * i + 98 := by rw [e586, List.length_append, lo1, hl1]
      refine X_aload_n (pc := 456) 4 dX14_finishes_456 rfl rfl ?_
      refine X_aload (pc := 457) 2 dX14_finishes_457 rfl ?_
      refine X_getfield (pc := 459) dX14_finishes_459 fg_X14_200_8 (ak.c w6) (by first | rfl | assumption) ?_
      refine X_iconst (pc := 462) (x := 0) dX14_finishes_462 (by decide) ?_
      refine X_aload (pc := 463) 9 dX14_finishes_463 rfl ?_
      refine X_iload (pc := 465) 0 dX14_finishes_465 rfl ?_
      refine X_bipush (pc := 467) (x := 98) dX14_finishes_467 (by decide) ?_
      refine X_iadd (pc := 469) dX14_finishes_469 ?_
      rw [show nI (146 * i) + 98 = nI (146 * i + 98) from nI_add _ 98]
      have ou7 := outputX_ok g w6 o (ki := C + 1) (ni := 98) (fr := 0) (kt := 58) (nt := 1200) (at' := 146 * i + 98) ak.2.2.1 (by decide) (by omega) (by rw [ei6]; exact hb1) (by rw [ei6, hl1]; decide) (by rw [e96]; exact en_l49 hD) (by rw [e96]; exact en_B' _) (w6.k 58 (by decide)) (by decide) (by decide) (by rw [lo2]; exact Nat.le_refl _) (by omega)
      rw [ei6, e96, sub_all hl1, e586, List.take_of_length_le (by rw [List.length_append, lo1, hl1]; exact Nat.le_refl _), show outL (inp i) (en (finT T kp i)) = outB (inp i) (finT T kp i) from rfl] at ou7
      refine X_ivv (pc := 470) _ dX14_finishes_470 cv_X14_219_9 (o.ob w6) rfl (ou7) nX14_output (Nat.le_of_ble_eq_true rfl) (Nat.le_of_ble_eq_true rfl) (by dsimp only; omega) (by dsimp only; omega) (fun h7 q7 => ?_)
      obtain ⟨F7, f7, w7⟩ := q7
      refine X_iinc (pc := 473) (L' := [(11, .int (_ + 1)), (14, .int _), (13, .int _), (12, .ref _), (0, .ref _), (1, .ref _), (2, .int _), (3, .int _), (4, .ref _), (5, .ref _)]) 3 dX14_finishes_473 rfl rfl (Nat.le_of_ble_eq_true rfl) rfl ?_
      refine X_goto (pc := 476) 351 dX14_finishes_476 (by decide) ?_
      rw [show nI i + 1 = nI (i + 1) from nI_add i 1]
      refine XX.pick (L' := [(11, .int _), (0, .ref _), (1, .ref _), (2, .int _), (3, .int _), (4, .ref _), (5, .ref _)]) [0, 4, 5, 6, 7, 8, 9] rfl ?_
      refine XX.wide (k' := k0 + (i + 1)) (n' := n0 + 64 * (i + 1)) (by dsimp only; omega) (by dsimp only; omega) ?_
      refine ih (i + 1) (by omega) R5 _ F7 h7 w7 (fr5.trans ⟨fun _ _ => rfl, fun j hj => ?_, fun j a b _ => f7 j a b⟩) (fun j hj => ?_) (up_same _ _ _)
      · have a := obS_ne hj
        have h8 : j ≠ 8 := fun z => by rw [z] at a; exact absurd a.1 (by decide)
        rw [up_ne a.2.1, up_ne h8, ← hS6, up_ne a.2.1]
      · by_cases ej : j = i
        · rw [ej]; exact hD
        · exact hP j (by omega)
  have w0 := w.nilS (w.k 58 (by decide))
  refine X_iconst (pc := 348) (x := 0) dX14_finishes_348 (by decide) ?_
  refine X_istore (pc := 349) (L' := [(11, .int _), (0, .ref _), (1, .ref _), (2, .int _), (3, .int _), (4, .ref _), (5, .ref _)]) dX14_finishes_349 (Nat.le_of_ble_eq_true rfl) rfl ?_
  exact loop many 0 (by omega) R _ F h w0 ⟨fun _ _ => rfl, fun j hj => up_ne (obS_ne hj).2.1, fun _ _ _ _ => rfl⟩ (fun j hj => absurd hj (Nat.not_lt_zero j)) (up_same _ _ _)
end XFin
