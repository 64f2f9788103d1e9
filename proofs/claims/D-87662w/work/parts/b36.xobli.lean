set_option maxRecDepth 100000
/-! VeilMint's keys of the first type: making one; what they tell -/
def KB (B j : Nat) : Bool := decide (B ≤ j ∧ j < B + 100)
theorem KB_t {B j : Nat} (h : B ≤ j ∧ j < B + 100) : KB B j = true := decide_eq_true h
theorem KB_f {B j : Nat} (h : ¬ (B ≤ j ∧ j < B + 100)) : KB B j = false := decide_eq_false h
/-- what making a key may change -/
def inR (B j : Nat) : Bool := decide (16 ≤ j ∧ j ≤ 23) || (decide (65 ≤ j ∧ j ≤ 71) || decide (B ≤ j ∧ j < B + 100))
theorem inR_ne {B j : Nat} (h : inR B j = false) : ¬ (16 ≤ j ∧ j ≤ 23) ∧ ¬ (65 ≤ j ∧ j ≤ 71) ∧ ¬ (B ≤ j ∧ j < B + 100) := by
  unfold inR at h
  simp only [Bool.or_eq_false_iff, decide_eq_false_iff_not] at h
  exact h
theorem PtK.eq {kd kd' : Nat → KD} {A A' : Nat → Nat} {O O' : Nat → AC} {P : Nat} (p : PtK kd A O P) (hP : 80 ≤ P) (e : ∀ j, P ≤ j → j < P + 4 → kd' j = kd j ∧ A' j = A j ∧ O' j = O j) : PtK kd' A' O' P := by
  obtain ⟨k0, ⟨o0, o1⟩, k1, k2, k3⟩ := p
  have e0 := e P (Nat.le_refl _) (by omega)
  have e1 := e (P + 1) (by omega) (by omega)
  have e2 := e (P + 2) (by omega) (by omega)
  have e3 := e (P + 3) (by omega) (by omega)
  refine ⟨by rw [e0.1]; exact k0, ⟨?_, o1⟩, by rw [e1.1]; exact k1, by rw [e2.1]; exact k2, by rw [e3.1]; exact k3⟩
  unfold OS at o0 ⊢
  rw [if_neg (by omega)] at o0 ⊢
  unfold ptC at o0 ⊢
  rw [e0.2.2, e1.2.1, e2.2.1, e3.2.1]
  exact o0
theorem BY.put' {b ci : Nat} {fs : List Value} {kd : Nat → KD} {A : Nat → Nat} {X : AH} {R : Nat → Nat} {S : Nat → List Int32} {O : Nat → AC} {F : Nat → Int32} {h : AH} (y : BY b ci fs kd A X R S O F h) (f : Nat) (v : Value) : BY b ci (fs.set f v) kd A X R S O F (hset h b (Ob ci (fs.set f v))) := y.put _
section XOi
variable {kd : Nat → KD} {A : Nat → Nat} {X : AH} {R : Nat → Nat} {S : Nat → List Int32} {O : Nat → AC} {F : Nat → Int32} {h : AH} {B : Nat} {lv : Int32} {g : GX} {b : Nat}
abbrev ob0 : List Value := [.null, .int 0, .int 0, .null, .null, .null, .null, .null, .null, .null, .null, .null, .null, .null, .null, .null, .null, .null]
set_option maxHeartbeats 32000000 in
theorem oblInit_ok (y0 : BY b 9 ob0 kd A X R S O F h) (hB : 100 ≤ B) (fk : ∀ j, B ≤ j → j < B + 100 → FreeK F j ∧ (kd j).1 = 0) (xb : XB R) (hl : 48 ≤ (S 56).length) (gw : Gw (KB B) kd A O kd A O) :
    MT g MX14_init ({ frames := 7, cells := 40, slots := 800, locals := 162 } : Room) [.ref b, .ref (A 11), .ref (A 50), .ref (A 56)] h
      (TW (A 50) (RV fun h' => (0 < num (S 56) 0 48 ∧ num (S 56) 0 48 < qP) ∧ ∃ kd' A' O' R' S', Gw (KB B) kd A O kd' A' O' ∧ A' B = b ∧ ObK kd' A' O' B 1 ∧ R' (B + 2) = num (S 56) 0 48 ∧ S' (B + 6) = en (mP (num (S 56) 0 48) GP) ∧ (∀ j, inR B j = false → R' j = R j) ∧ (∀ j, ¬ (B ≤ j ∧ j < B + 100) → S' j = S j) ∧ XW kd' A' X R' S' O' F h')
        (fun h' => ¬ (0 < num (S 56) 0 48 ∧ num (S 56) 0 48 < qP) ∧ ∃ kd' A' O' R' S', Gw (KB B) kd A O kd' A' O' ∧ (∀ j, inR B j = false → R' j = R j) ∧ (∀ j, ¬ (B ≤ j ∧ j < B + 100) → S' j = S j) ∧ XW kd' A' X R' S' O' (up F 24 (-2)) h')) := by
  refine MT.of (by decide) (Nat.le_of_ble_eq_true rfl) ?_
  generalize hQ : TW (A 50) _ _ = Q
  have f0 : ∀ i, i < 100 → FreeK F (B + i) := fun i hi => (fk _ (by omega) (by omega)).1
  have z0 : ∀ i, i < 100 → (kd (B + i)).1 = 0 := fun i hi => (fk _ (by omega) (by omega)).2
  refine X_aload_n (pc := 0) 0 dX14_init_0 rfl rfl ?_
  refine X_iconst (pc := 1) (x := 1) dX14_init_1 (by decide) ?_
  refine X_ipv (pc := 2) _ dX14_init_2 ci_X14_3 rfl (keyInit9_ok g y0.c) nX13_init (Nat.le_of_ble_eq_true rfl) (Nat.le_of_ble_eq_true rfl) (Nat.le_of_ble_eq_true rfl) (Nat.le_of_ble_eq_true rfl) (fun h0 q0 => ?_)
  obtain ⟨q1, hq1, rfl⟩ := q0
  obtain ⟨kd1, A1, S1, e1, a1, n1, g1, s1, y1⟩ := y0.growS (k := B + 1) 32 hq1 (z0 1 (by decide)) (f0 1 (by decide))
  have G1 := g1 (KB B) kd A O gw (KB_t (by omega))
  have y1 := y1.put (.ref q1 :: .int 1 :: .int 1 :: [.null, .null, .null, .null, .null, .null, .null, .null, .null, .null, .null, .null, .null, .null, .null])
  generalize hset (hset h q1 _) b _ = h1 at y1 ⊢
  refine X_aload_n (pc := 5) 0 dX14_init_5 rfl rfl ?_
  refine X_bipush (pc := 6) (x := 12) dX14_init_6 (by decide) ?_
  refine X_new_int (12) (pc := 8) dX14_init_8 rfl (by decide) (Nat.le_of_ble_eq_true rfl) (Nat.le_of_ble_eq_true rfl) (fun q2 hq2 => ?_)
  obtain ⟨kd2, A2, R2, e2, a2, n2, g2, s2, y2⟩ := y1.growN (k := B + 2) 12 hq2 (by rw [(n1 _ (by omega)).1]; exact z0 2 (by decide)) (f0 2 (by decide))
  have G2 := g2 (KB B) kd A O G1 (KB_t (by omega))
  refine X_putfield (pc := 10) dX14_init_10 fp_X14_9_9 (fun _ => rfl) (BY.c y2) rfl rfl (Nat.le_of_ble_eq_true rfl) ?_
  have y2 := y2.put' 5 (.ref q2)
  generalize hset (hset h1 q2 _) b _ = h2 at y2 ⊢
  refine X_aload_n (pc := 13) 0 dX14_init_13 rfl rfl ?_
  refine X_bipush (pc := 14) (x := 12) dX14_init_14 (by decide) ?_
  refine X_new_int (12) (pc := 16) dX14_init_16 rfl (by decide) (Nat.le_of_ble_eq_true rfl) (Nat.le_of_ble_eq_true rfl) (fun q3 hq3 => ?_)
  obtain ⟨kd3, A3, R3, e3, a3, n3, g3, s3, y3⟩ := y2.growN (k := B + 3) 12 hq3 (by rw [(n2 _ (by omega)).1, (n1 _ (by omega)).1]; exact z0 3 (by decide)) (f0 3 (by decide))
  have G3 := g3 (KB B) kd A O G2 (KB_t (by omega))
  refine X_putfield (pc := 18) dX14_init_18 fp_X14_15_9 (fun _ => rfl) (BY.c y3) rfl rfl (Nat.le_of_ble_eq_true rfl) ?_
  have y3 := y3.put' 6 (.ref q3)
  generalize hset (hset h2 q3 _) b _ = h3 at y3 ⊢
  refine X_aload_n (pc := 21) 0 dX14_init_21 rfl rfl ?_
  refine X_bipush (pc := 22) (x := 12) dX14_init_22 (by decide) ?_
  refine X_new_int (12) (pc := 24) dX14_init_24 rfl (by decide) (Nat.le_of_ble_eq_true rfl) (Nat.le_of_ble_eq_true rfl) (fun q4 hq4 => ?_)
  obtain ⟨kd4, A4, R4, e4, a4, n4, g4, s4, y4⟩ := y3.growN (k := B + 4) 12 hq4 (by rw [(n3 _ (by omega)).1, (n2 _ (by omega)).1, (n1 _ (by omega)).1]; exact z0 4 (by decide)) (f0 4 (by decide))
  have G4 := g4 (KB B) kd A O G3 (KB_t (by omega))
  refine X_putfield (pc := 26) dX14_init_26 fp_X14_18_9 (fun _ => rfl) (BY.c y4) rfl rfl (Nat.le_of_ble_eq_true rfl) ?_
  have y4 := y4.put' 7 (.ref q4)
  generalize hset (hset h3 q4 _) b _ = h4 at y4 ⊢
  refine X_aload_n (pc := 29) 0 dX14_init_29 rfl rfl ?_
  refine X_bipush (pc := 30) (x := 12) dX14_init_30 (by decide) ?_
  refine X_new_int (12) (pc := 32) dX14_init_32 rfl (by decide) (Nat.le_of_ble_eq_true rfl) (Nat.le_of_ble_eq_true rfl) (fun q5 hq5 => ?_)
  obtain ⟨kd5, A5, R5, e5, a5, n5, g5, s5, y5⟩ := y4.growN (k := B + 5) 12 hq5 (by rw [(n4 _ (by omega)).1, (n3 _ (by omega)).1, (n2 _ (by omega)).1, (n1 _ (by omega)).1]; exact z0 5 (by decide)) (f0 5 (by decide))
  have G5 := g5 (KB B) kd A O G4 (KB_t (by omega))
  refine X_putfield (pc := 34) dX14_init_34 fp_X14_21_9 (fun _ => rfl) (BY.c y5) rfl rfl (Nat.le_of_ble_eq_true rfl) ?_
  have y5 := y5.put' 8 (.ref q5)
  generalize hset (hset h4 q5 _) b _ = h5 at y5 ⊢
  refine X_aload_n (pc := 37) 0 dX14_init_37 rfl rfl ?_
  refine X_bipush (pc := 38) (x := 49) dX14_init_38 (by decide) ?_
  refine X_new_byte (49) (pc := 40) dX14_init_40 rfl (by decide) (Nat.le_of_ble_eq_true rfl) (Nat.le_of_ble_eq_true rfl) (fun q6 hq6 => ?_)
  obtain ⟨kd6, A6, S6, e6, a6, n6, g6, s6, y6⟩ := y5.growS (k := B + 6) 49 hq6 (by rw [(n5 _ (by omega)).1, (n4 _ (by omega)).1, (n3 _ (by omega)).1, (n2 _ (by omega)).1, (n1 _ (by omega)).1]; exact z0 6 (by decide)) (f0 6 (by decide))
  have G6 := g6 (KB B) kd A O G5 (KB_t (by omega))
  refine X_putfield (pc := 42) dX14_init_42 fp_X14_24_9 (fun _ => rfl) (BY.c y6) rfl rfl (Nat.le_of_ble_eq_true rfl) ?_
  have y6 := y6.put' 9 (.ref q6)
  generalize hset (hset h5 q6 _) b _ = h6 at y6 ⊢
  refine X_aload_n (pc := 45) 0 dX14_init_45 rfl rfl ?_
  refine X_bipush (pc := 46) (x := 48) dX14_init_46 (by decide) ?_
  refine X_new_byte (48) (pc := 48) dX14_init_48 rfl (by decide) (Nat.le_of_ble_eq_true rfl) (Nat.le_of_ble_eq_true rfl) (fun q7 hq7 => ?_)
  obtain ⟨kd7, A7, S7, e7, a7, n7, g7, s7, y7⟩ := y6.growS (k := B + 7) 48 hq7 (by rw [(n6 _ (by omega)).1, (n5 _ (by omega)).1, (n4 _ (by omega)).1, (n3 _ (by omega)).1, (n2 _ (by omega)).1, (n1 _ (by omega)).1]; exact z0 7 (by decide)) (f0 7 (by decide))
  have G7 := g7 (KB B) kd A O G6 (KB_t (by omega))
  refine X_putfield (pc := 50) dX14_init_50 fp_X14_28_9 (fun _ => rfl) (BY.c y7) rfl rfl (Nat.le_of_ble_eq_true rfl) ?_
  have y7 := y7.put' 10 (.ref q7)
  generalize hset (hset h6 q7 _) b _ = h7 at y7 ⊢
  refine X_aload_n (pc := 53) 0 dX14_init_53 rfl rfl ?_
  refine X_sipush (pc := 54) (x := 245) dX14_init_54 (by decide) ?_
  refine X_new_byte (245) (pc := 57) dX14_init_57 rfl (by decide) (Nat.le_of_ble_eq_true rfl) (Nat.le_of_ble_eq_true rfl) (fun q8 hq8 => ?_)
  obtain ⟨kd8, A8, S8, e8, a8, n8, g8, s8, y8⟩ := y7.growS (k := B + 8) 245 hq8 (by rw [(n7 _ (by omega)).1, (n6 _ (by omega)).1, (n5 _ (by omega)).1, (n4 _ (by omega)).1, (n3 _ (by omega)).1, (n2 _ (by omega)).1, (n1 _ (by omega)).1]; exact z0 8 (by decide)) (f0 8 (by decide))
  have G8 := g8 (KB B) kd A O G7 (KB_t (by omega))
  refine X_putfield (pc := 59) dX14_init_59 fp_X14_31_9 (fun _ => rfl) (BY.c y8) rfl rfl (Nat.le_of_ble_eq_true rfl) ?_
  have y8 := y8.put' 11 (.ref q8)
  generalize hset (hset h7 q8 _) b _ = h8 at y8 ⊢
  refine X_aload_n (pc := 62) 0 dX14_init_62 rfl rfl ?_
  refine X_bipush (pc := 63) (x := 49) dX14_init_63 (by decide) ?_
  refine X_new_byte (49) (pc := 65) dX14_init_65 rfl (by decide) (Nat.le_of_ble_eq_true rfl) (Nat.le_of_ble_eq_true rfl) (fun q9 hq9 => ?_)
  obtain ⟨kd9, A9, S9, e9, a9, n9, g9, s9, y9⟩ := y8.growS (k := B + 9) 49 hq9 (by rw [(n8 _ (by omega)).1, (n7 _ (by omega)).1, (n6 _ (by omega)).1, (n5 _ (by omega)).1, (n4 _ (by omega)).1, (n3 _ (by omega)).1, (n2 _ (by omega)).1, (n1 _ (by omega)).1]; exact z0 9 (by decide)) (f0 9 (by decide))
  have G9 := g9 (KB B) kd A O G8 (KB_t (by omega))
  refine X_putfield (pc := 67) dX14_init_67 fp_X14_34_9 (fun _ => rfl) (BY.c y9) rfl rfl (Nat.le_of_ble_eq_true rfl) ?_
  have y9 := y9.put' 12 (.ref q9)
  generalize hset (hset h8 q9 _) b _ = h9 at y9 ⊢
  refine X_aload_n (pc := 70) 0 dX14_init_70 rfl rfl ?_
  refine X_new tyX7 (ci := 5) (fs := [.null, .null, .null]) (pc := 71) dX14_init_71 rfl in_X7 tyX7_ok q612 q319 q110 dfX7 (Nat.le_of_ble_eq_true rfl) (Nat.le_of_ble_eq_true rfl) (fun q10 hq10 => ?_)
  refine X_dup (pc := 74) dX14_init_74 rfl ?_
  refine X_iqv (pc := 75) _ dX14_init_75 cin_X14_39 rfl (pointInit_ok g (hset_self _ _ _)) nX7_init (Nat.le_of_ble_eq_true rfl) (Nat.le_of_ble_eq_true rfl) (Nat.le_of_ble_eq_true rfl) (Nat.le_of_ble_eq_true rfl) (fun h10' q10' => ?_)
  obtain ⟨x10, u10, t10, hx10, hu10, ht10, xu10, xt10, ut10, rfl⟩ := q10'
  obtain ⟨kd10, A10, O10, R10, e10, a10, n10, g10, s10, y10⟩ := y9.growP (P := B + 10) (by omega) (fun j h1 h2 => ⟨(fk j (by omega) (by omega)).1, by rw [(n9 _ (by omega)).1, (n8 _ (by omega)).1, (n7 _ (by omega)).1, (n6 _ (by omega)).1, (n5 _ (by omega)).1, (n4 _ (by omega)).1, (n3 _ (by omega)).1, (n2 _ (by omega)).1, (n1 _ (by omega)).1]; exact (fk j (by omega) (by omega)).2⟩) hq10 hx10 hu10 ht10 xu10 xt10 ut10
  have G10 := g10 (KB B) kd A O G9 (fun j h1 h2 => KB_t (by omega))
  refine X_putfield (pc := 78) dX14_init_78 fp_X14_42_9 (fun _ => rfl) (BY.c y10) rfl rfl (Nat.le_of_ble_eq_true rfl) ?_
  have y10 := y10.put' 13 (.ref q10)
  generalize hset (hset (hset (hset (hset (hset h9 q10 _) x10 _) u10 _) t10 _) q10 _) b _ = h10 at y10 ⊢
  refine X_aload_n (pc := 81) 0 dX14_init_81 rfl rfl ?_
  refine X_new tyX7 (ci := 5) (fs := [.null, .null, .null]) (pc := 82) dX14_init_82 rfl in_X7 tyX7_ok q612 q319 q110 dfX7 (Nat.le_of_ble_eq_true rfl) (Nat.le_of_ble_eq_true rfl) (fun q11 hq11 => ?_)
  refine X_dup (pc := 85) dX14_init_85 rfl ?_
  refine X_iqv (pc := 86) _ dX14_init_86 cin_X14_39 rfl (pointInit_ok g (hset_self _ _ _)) nX7_init (Nat.le_of_ble_eq_true rfl) (Nat.le_of_ble_eq_true rfl) (Nat.le_of_ble_eq_true rfl) (Nat.le_of_ble_eq_true rfl) (fun h11' q11' => ?_)
  obtain ⟨x11, u11, t11, hx11, hu11, ht11, xu11, xt11, ut11, rfl⟩ := q11'
  obtain ⟨kd11, A11, O11, R11, e11, a11, n11, g11, s11, y11⟩ := y10.growP (P := B + 14) (by omega) (fun j h1 h2 => ⟨(fk j (by omega) (by omega)).1, by rw [(n10 _ (by omega)).1, (n9 _ (by omega)).1, (n8 _ (by omega)).1, (n7 _ (by omega)).1, (n6 _ (by omega)).1, (n5 _ (by omega)).1, (n4 _ (by omega)).1, (n3 _ (by omega)).1, (n2 _ (by omega)).1, (n1 _ (by omega)).1]; exact (fk j (by omega) (by omega)).2⟩) hq11 hx11 hu11 ht11 xu11 xt11 ut11
  have G11 := g11 (KB B) kd A O G10 (fun j h1 h2 => KB_t (by omega))
  refine X_putfield (pc := 89) dX14_init_89 fp_X14_46_9 (fun _ => rfl) (BY.c y11) rfl rfl (Nat.le_of_ble_eq_true rfl) ?_
  have y11 := y11.put' 14 (.ref q11)
  generalize hset (hset (hset (hset (hset (hset h10 q11 _) x11 _) u11 _) t11 _) q11 _) b _ = h11 at y11 ⊢
  refine X_aload_n (pc := 92) 0 dX14_init_92 rfl rfl ?_
  refine X_new tyX7 (ci := 5) (fs := [.null, .null, .null]) (pc := 93) dX14_init_93 rfl in_X7 tyX7_ok q612 q319 q110 dfX7 (Nat.le_of_ble_eq_true rfl) (Nat.le_of_ble_eq_true rfl) (fun q12 hq12 => ?_)
  refine X_dup (pc := 96) dX14_init_96 rfl ?_
  refine X_iqv (pc := 97) _ dX14_init_97 cin_X14_39 rfl (pointInit_ok g (hset_self _ _ _)) nX7_init (Nat.le_of_ble_eq_true rfl) (Nat.le_of_ble_eq_true rfl) (Nat.le_of_ble_eq_true rfl) (Nat.le_of_ble_eq_true rfl) (fun h12' q12' => ?_)
  obtain ⟨x12, u12, t12, hx12, hu12, ht12, xu12, xt12, ut12, rfl⟩ := q12'
  obtain ⟨kd12, A12, O12, R12, e12, a12, n12, g12, s12, y12⟩ := y11.growP (P := B + 18) (by omega) (fun j h1 h2 => ⟨(fk j (by omega) (by omega)).1, by rw [(n11 _ (by omega)).1, (n10 _ (by omega)).1, (n9 _ (by omega)).1, (n8 _ (by omega)).1, (n7 _ (by omega)).1, (n6 _ (by omega)).1, (n5 _ (by omega)).1, (n4 _ (by omega)).1, (n3 _ (by omega)).1, (n2 _ (by omega)).1, (n1 _ (by omega)).1]; exact (fk j (by omega) (by omega)).2⟩) hq12 hx12 hu12 ht12 xu12 xt12 ut12
  have G12 := g12 (KB B) kd A O G11 (fun j h1 h2 => KB_t (by omega))
  refine X_putfield (pc := 100) dX14_init_100 fp_X14_49_9 (fun _ => rfl) (BY.c y12) rfl rfl (Nat.le_of_ble_eq_true rfl) ?_
  have y12 := y12.put' 15 (.ref q12)
  generalize hset (hset (hset (hset (hset (hset h11 q12 _) x12 _) u12 _) t12 _) q12 _) b _ = h12 at y12 ⊢
  refine X_aload_n (pc := 103) 0 dX14_init_103 rfl rfl ?_
  refine X_new tyX7 (ci := 5) (fs := [.null, .null, .null]) (pc := 104) dX14_init_104 rfl in_X7 tyX7_ok q612 q319 q110 dfX7 (Nat.le_of_ble_eq_true rfl) (Nat.le_of_ble_eq_true rfl) (fun q13 hq13 => ?_)
  refine X_dup (pc := 107) dX14_init_107 rfl ?_
  refine X_iqv (pc := 108) _ dX14_init_108 cin_X14_39 rfl (pointInit_ok g (hset_self _ _ _)) nX7_init (Nat.le_of_ble_eq_true rfl) (Nat.le_of_ble_eq_true rfl) (Nat.le_of_ble_eq_true rfl) (Nat.le_of_ble_eq_true rfl) (fun h13' q13' => ?_)
  obtain ⟨x13, u13, t13, hx13, hu13, ht13, xu13, xt13, ut13, rfl⟩ := q13'
  obtain ⟨kd13, A13, O13, R13, e13, a13, n13, g13, s13, y13⟩ := y12.growP (P := B + 22) (by omega) (fun j h1 h2 => ⟨(fk j (by omega) (by omega)).1, by rw [(n12 _ (by omega)).1, (n11 _ (by omega)).1, (n10 _ (by omega)).1, (n9 _ (by omega)).1, (n8 _ (by omega)).1, (n7 _ (by omega)).1, (n6 _ (by omega)).1, (n5 _ (by omega)).1, (n4 _ (by omega)).1, (n3 _ (by omega)).1, (n2 _ (by omega)).1, (n1 _ (by omega)).1]; exact (fk j (by omega) (by omega)).2⟩) hq13 hx13 hu13 ht13 xu13 xt13 ut13
  have G13 := g13 (KB B) kd A O G12 (fun j h1 h2 => KB_t (by omega))
  refine X_putfield (pc := 111) dX14_init_111 fp_X14_52_9 (fun _ => rfl) (BY.c y13) rfl rfl (Nat.le_of_ble_eq_true rfl) ?_
  have y13 := y13.put' 16 (.ref q13)
  generalize hset (hset (hset (hset (hset (hset h12 q13 _) x13 _) u13 _) t13 _) q13 _) b _ = h13 at y13 ⊢
  refine X_aload_n (pc := 114) 0 dX14_init_114 rfl rfl ?_
  refine X_new tyX7 (ci := 5) (fs := [.null, .null, .null]) (pc := 115) dX14_init_115 rfl in_X7 tyX7_ok q612 q319 q110 dfX7 (Nat.le_of_ble_eq_true rfl) (Nat.le_of_ble_eq_true rfl) (fun q14 hq14 => ?_)
  refine X_dup (pc := 118) dX14_init_118 rfl ?_
  refine X_iqv (pc := 119) _ dX14_init_119 cin_X14_39 rfl (pointInit_ok g (hset_self _ _ _)) nX7_init (Nat.le_of_ble_eq_true rfl) (Nat.le_of_ble_eq_true rfl) (Nat.le_of_ble_eq_true rfl) (Nat.le_of_ble_eq_true rfl) (fun h14' q14' => ?_)
  obtain ⟨x14, u14, t14, hx14, hu14, ht14, xu14, xt14, ut14, rfl⟩ := q14'
  obtain ⟨kd14, A14, O14, R14, e14, a14, n14, g14, s14, y14⟩ := y13.growP (P := B + 26) (by omega) (fun j h1 h2 => ⟨(fk j (by omega) (by omega)).1, by rw [(n13 _ (by omega)).1, (n12 _ (by omega)).1, (n11 _ (by omega)).1, (n10 _ (by omega)).1, (n9 _ (by omega)).1, (n8 _ (by omega)).1, (n7 _ (by omega)).1, (n6 _ (by omega)).1, (n5 _ (by omega)).1, (n4 _ (by omega)).1, (n3 _ (by omega)).1, (n2 _ (by omega)).1, (n1 _ (by omega)).1]; exact (fk j (by omega) (by omega)).2⟩) hq14 hx14 hu14 ht14 xu14 xt14 ut14
  have G14 := g14 (KB B) kd A O G13 (fun j h1 h2 => KB_t (by omega))
  refine X_putfield (pc := 122) dX14_init_122 fp_X14_55_9 (fun _ => rfl) (BY.c y14) rfl rfl (Nat.le_of_ble_eq_true rfl) ?_
  have y14 := y14.put' 17 (.ref q14)
  generalize hset (hset (hset (hset (hset (hset h13 q14 _) x14 _) u14 _) t14 _) q14 _) b _ = h14 at y14 ⊢
  refine X_aload_n (pc := 125) 0 dX14_init_125 rfl rfl ?_
  refine X_aload_n (pc := 126) 1 dX14_init_126 rfl rfl ?_
  refine X_putfield (pc := 127) dX14_init_127 fp_X14_58_9 (fun _ => rfl) (BY.c y14) rfl rfl (Nat.le_of_ble_eq_true rfl) ?_
  refine X_aload_n (pc := 130) 0 dX14_init_130 rfl rfl ?_
  refine X_aload_n (pc := 131) 2 dX14_init_131 rfl rfl ?_
  refine X_putfield (pc := 132) dX14_init_132 fp_X14_62_9 (fun _ => rfl) (hset_self _ _ _) rfl rfl (Nat.le_of_ble_eq_true rfl) ?_
  have y14 := (y14.put' 3 (.ref (A 11))).put' 4 (.ref (A 50))
  generalize hset (hset h14 b _) b _ = h14' at y14 ⊢
  have fB := fk B (Nat.le_refl _) (by omega)
  obtain ⟨kd', A', O', eB, aB, oB, nB, gB, w⟩ := y14.take (k := B) (by rw [(n14 _ (by omega)).1, (n13 _ (by omega)).1, (n12 _ (by omega)).1, (n11 _ (by omega)).1, (n10 _ (by omega)).1, (n9 _ (by omega)).1, (n8 _ (by omega)).1, (n7 _ (by omega)).1, (n6 _ (by omega)).1, (n5 _ (by omega)).1, (n4 _ (by omega)).1, (n3 _ (by omega)).1, (n2 _ (by omega)).1, (n1 _ (by omega)).1]; exact fB.2) fB.1
  have G := gB (KB B) kd A O G14 (KB_t (by omega))
  have b1 : A' (B + 1) = q1 := by rw [(nB _ (by omega)).2.1, (n14 _ (by omega)).2.1, (n13 _ (by omega)).2.1, (n12 _ (by omega)).2.1, (n11 _ (by omega)).2.1, (n10 _ (by omega)).2.1, (n9 _ (by omega)).2, (n8 _ (by omega)).2, (n7 _ (by omega)).2, (n6 _ (by omega)).2, (n5 _ (by omega)).2, (n4 _ (by omega)).2, (n3 _ (by omega)).2, (n2 _ (by omega)).2]; exact a1
  have k1 : kd' (B + 1) = (6, 2, 32) := by rw [(nB _ (by omega)).1, (n14 _ (by omega)).1, (n13 _ (by omega)).1, (n12 _ (by omega)).1, (n11 _ (by omega)).1, (n10 _ (by omega)).1, (n9 _ (by omega)).1, (n8 _ (by omega)).1, (n7 _ (by omega)).1, (n6 _ (by omega)).1, (n5 _ (by omega)).1, (n4 _ (by omega)).1, (n3 _ (by omega)).1, (n2 _ (by omega)).1]; exact e1
  have b2 : A' (B + 2) = q2 := by rw [(nB _ (by omega)).2.1, (n14 _ (by omega)).2.1, (n13 _ (by omega)).2.1, (n12 _ (by omega)).2.1, (n11 _ (by omega)).2.1, (n10 _ (by omega)).2.1, (n9 _ (by omega)).2, (n8 _ (by omega)).2, (n7 _ (by omega)).2, (n6 _ (by omega)).2, (n5 _ (by omega)).2, (n4 _ (by omega)).2, (n3 _ (by omega)).2]; exact a2
  have k2 : kd' (B + 2) = (2, 0, 12) := by rw [(nB _ (by omega)).1, (n14 _ (by omega)).1, (n13 _ (by omega)).1, (n12 _ (by omega)).1, (n11 _ (by omega)).1, (n10 _ (by omega)).1, (n9 _ (by omega)).1, (n8 _ (by omega)).1, (n7 _ (by omega)).1, (n6 _ (by omega)).1, (n5 _ (by omega)).1, (n4 _ (by omega)).1, (n3 _ (by omega)).1]; exact e2
  have b3 : A' (B + 3) = q3 := by rw [(nB _ (by omega)).2.1, (n14 _ (by omega)).2.1, (n13 _ (by omega)).2.1, (n12 _ (by omega)).2.1, (n11 _ (by omega)).2.1, (n10 _ (by omega)).2.1, (n9 _ (by omega)).2, (n8 _ (by omega)).2, (n7 _ (by omega)).2, (n6 _ (by omega)).2, (n5 _ (by omega)).2, (n4 _ (by omega)).2]; exact a3
  have k3 : kd' (B + 3) = (2, 0, 12) := by rw [(nB _ (by omega)).1, (n14 _ (by omega)).1, (n13 _ (by omega)).1, (n12 _ (by omega)).1, (n11 _ (by omega)).1, (n10 _ (by omega)).1, (n9 _ (by omega)).1, (n8 _ (by omega)).1, (n7 _ (by omega)).1, (n6 _ (by omega)).1, (n5 _ (by omega)).1, (n4 _ (by omega)).1]; exact e3
  have b4 : A' (B + 4) = q4 := by rw [(nB _ (by omega)).2.1, (n14 _ (by omega)).2.1, (n13 _ (by omega)).2.1, (n12 _ (by omega)).2.1, (n11 _ (by omega)).2.1, (n10 _ (by omega)).2.1, (n9 _ (by omega)).2, (n8 _ (by omega)).2, (n7 _ (by omega)).2, (n6 _ (by omega)).2, (n5 _ (by omega)).2]; exact a4
  have k4 : kd' (B + 4) = (2, 0, 12) := by rw [(nB _ (by omega)).1, (n14 _ (by omega)).1, (n13 _ (by omega)).1, (n12 _ (by omega)).1, (n11 _ (by omega)).1, (n10 _ (by omega)).1, (n9 _ (by omega)).1, (n8 _ (by omega)).1, (n7 _ (by omega)).1, (n6 _ (by omega)).1, (n5 _ (by omega)).1]; exact e4
  have b5 : A' (B + 5) = q5 := by rw [(nB _ (by omega)).2.1, (n14 _ (by omega)).2.1, (n13 _ (by omega)).2.1, (n12 _ (by omega)).2.1, (n11 _ (by omega)).2.1, (n10 _ (by omega)).2.1, (n9 _ (by omega)).2, (n8 _ (by omega)).2, (n7 _ (by omega)).2, (n6 _ (by omega)).2]; exact a5
  have k5 : kd' (B + 5) = (2, 0, 12) := by rw [(nB _ (by omega)).1, (n14 _ (by omega)).1, (n13 _ (by omega)).1, (n12 _ (by omega)).1, (n11 _ (by omega)).1, (n10 _ (by omega)).1, (n9 _ (by omega)).1, (n8 _ (by omega)).1, (n7 _ (by omega)).1, (n6 _ (by omega)).1]; exact e5
  have b6 : A' (B + 6) = q6 := by rw [(nB _ (by omega)).2.1, (n14 _ (by omega)).2.1, (n13 _ (by omega)).2.1, (n12 _ (by omega)).2.1, (n11 _ (by omega)).2.1, (n10 _ (by omega)).2.1, (n9 _ (by omega)).2, (n8 _ (by omega)).2, (n7 _ (by omega)).2]; exact a6
  have k6 : kd' (B + 6) = (6, 2, 49) := by rw [(nB _ (by omega)).1, (n14 _ (by omega)).1, (n13 _ (by omega)).1, (n12 _ (by omega)).1, (n11 _ (by omega)).1, (n10 _ (by omega)).1, (n9 _ (by omega)).1, (n8 _ (by omega)).1, (n7 _ (by omega)).1]; exact e6
  have b7 : A' (B + 7) = q7 := by rw [(nB _ (by omega)).2.1, (n14 _ (by omega)).2.1, (n13 _ (by omega)).2.1, (n12 _ (by omega)).2.1, (n11 _ (by omega)).2.1, (n10 _ (by omega)).2.1, (n9 _ (by omega)).2, (n8 _ (by omega)).2]; exact a7
  have k7 : kd' (B + 7) = (6, 2, 48) := by rw [(nB _ (by omega)).1, (n14 _ (by omega)).1, (n13 _ (by omega)).1, (n12 _ (by omega)).1, (n11 _ (by omega)).1, (n10 _ (by omega)).1, (n9 _ (by omega)).1, (n8 _ (by omega)).1]; exact e7
  have b8 : A' (B + 8) = q8 := by rw [(nB _ (by omega)).2.1, (n14 _ (by omega)).2.1, (n13 _ (by omega)).2.1, (n12 _ (by omega)).2.1, (n11 _ (by omega)).2.1, (n10 _ (by omega)).2.1, (n9 _ (by omega)).2]; exact a8
  have k8 : kd' (B + 8) = (6, 2, 245) := by rw [(nB _ (by omega)).1, (n14 _ (by omega)).1, (n13 _ (by omega)).1, (n12 _ (by omega)).1, (n11 _ (by omega)).1, (n10 _ (by omega)).1, (n9 _ (by omega)).1]; exact e8
  have b9 : A' (B + 9) = q9 := by rw [(nB _ (by omega)).2.1, (n14 _ (by omega)).2.1, (n13 _ (by omega)).2.1, (n12 _ (by omega)).2.1, (n11 _ (by omega)).2.1, (n10 _ (by omega)).2.1]; exact a9
  have k9 : kd' (B + 9) = (6, 2, 49) := by rw [(nB _ (by omega)).1, (n14 _ (by omega)).1, (n13 _ (by omega)).1, (n12 _ (by omega)).1, (n11 _ (by omega)).1, (n10 _ (by omega)).1]; exact e9
  have b10 : A' (B + 10) = q10 := by rw [(nB _ (by omega)).2.1, (n14 _ (by omega)).2.1, (n13 _ (by omega)).2.1, (n12 _ (by omega)).2.1, (n11 _ (by omega)).2.1]; exact a10
  have k10 : PtK kd' A' O' (B + 10) := e10.eq (by omega) fun j h1 h2 => ⟨by rw [(nB j (by omega)).1, (n14 j (by omega)).1, (n13 j (by omega)).1, (n12 j (by omega)).1, (n11 j (by omega)).1], by rw [(nB j (by omega)).2.1, (n14 j (by omega)).2.1, (n13 j (by omega)).2.1, (n12 j (by omega)).2.1, (n11 j (by omega)).2.1], by rw [(nB j (by omega)).2.2, (n14 j (by omega)).2.2, (n13 j (by omega)).2.2, (n12 j (by omega)).2.2, (n11 j (by omega)).2.2]⟩
  have b11 : A' (B + 14) = q11 := by rw [(nB _ (by omega)).2.1, (n14 _ (by omega)).2.1, (n13 _ (by omega)).2.1, (n12 _ (by omega)).2.1]; exact a11
  have k11 : PtK kd' A' O' (B + 14) := e11.eq (by omega) fun j h1 h2 => ⟨by rw [(nB j (by omega)).1, (n14 j (by omega)).1, (n13 j (by omega)).1, (n12 j (by omega)).1], by rw [(nB j (by omega)).2.1, (n14 j (by omega)).2.1, (n13 j (by omega)).2.1, (n12 j (by omega)).2.1], by rw [(nB j (by omega)).2.2, (n14 j (by omega)).2.2, (n13 j (by omega)).2.2, (n12 j (by omega)).2.2]⟩
  have b12 : A' (B + 18) = q12 := by rw [(nB _ (by omega)).2.1, (n14 _ (by omega)).2.1, (n13 _ (by omega)).2.1]; exact a12
  have k12 : PtK kd' A' O' (B + 18) := e12.eq (by omega) fun j h1 h2 => ⟨by rw [(nB j (by omega)).1, (n14 j (by omega)).1, (n13 j (by omega)).1], by rw [(nB j (by omega)).2.1, (n14 j (by omega)).2.1, (n13 j (by omega)).2.1], by rw [(nB j (by omega)).2.2, (n14 j (by omega)).2.2, (n13 j (by omega)).2.2]⟩
  have b13 : A' (B + 22) = q13 := by rw [(nB _ (by omega)).2.1, (n14 _ (by omega)).2.1]; exact a13
  have k13 : PtK kd' A' O' (B + 22) := e13.eq (by omega) fun j h1 h2 => ⟨by rw [(nB j (by omega)).1, (n14 j (by omega)).1], by rw [(nB j (by omega)).2.1, (n14 j (by omega)).2.1], by rw [(nB j (by omega)).2.2, (n14 j (by omega)).2.2]⟩
  have b14 : A' (B + 26) = q14 := by rw [(nB _ (by omega)).2.1]; exact a14
  have k14 : PtK kd' A' O' (B + 26) := e14.eq (by omega) fun j h1 h2 => ⟨by rw [(nB j (by omega)).1], by rw [(nB j (by omega)).2.1], by rw [(nB j (by omega)).2.2]⟩
  have g11 := (G.1 11 (KB_f (by omega))).2.1
  have g50 := (G.1 50 (KB_f (by omega))).2.1
  have g56 := (G.1 56 (KB_f (by omega))).2.1
  have o : ObK kd' A' O' B 1 := ⟨⟨hB, eB, ?_⟩, k1, k2, k3, k4, k5, k6, k7, k8, k9, k10, k11, k12, k13, k14⟩
  rotate_left
  · rw [oB]
    unfold obFl
    rw [b1, b2, b3, b4, b5, b6, b7, b8, b9, b10, b11, b12, b13, b14, g11, g50]
    rfl
  have fR : ∀ j, ¬ (B ≤ j ∧ j < B + 100) → R14 j = R j := fun j hj => by rw [(s14 j (by omega)), (s13 j (by omega)), (s12 j (by omega)), (s11 j (by omega)), (s10 j (by omega)), (s5.2 j (by omega)), (s4.2 j (by omega)), (s3.2 j (by omega)), (s2.2 j (by omega))]
  have fS : ∀ j, ¬ (B ≤ j ∧ j < B + 100) → S9 j = S j := fun j hj => by rw [(s9.2 j (by omega)), (s8.2 j (by omega)), (s7.2 j (by omega)), (s6.2 j (by omega)), (s1.2 j (by omega))]
  have sE : S9 (B + 6) = [] := by rw [(s9.2 _ (by omega)), (s8.2 _ (by omega)), (s7.2 _ (by omega))]; exact s6.1
  generalize R14 = Ra at w fR
  generalize S9 = Sa at w fS sE
  rw [← aB, ← g11, ← g50, ← g56]
  have e56 : Sa 56 = S 56 := fS 56 (by omega)
  have is1 := isSecX_ok g w o (B + 2) o.se (kb := 56) (nb := 1200) (fr := 0) (w.k 56 (by decide)) (by decide) (by rw [e56]; omega)
  rw [e56] at is1
  generalize hk : num (S 56) 0 48 = sk at *
  refine X_aload_n (pc := 135) 0 dX14_init_135 rfl rfl ?_
  refine X_aload_n (pc := 136) 3 dX14_init_136 rfl rfl ?_
  refine X_iconst (pc := 137) (x := 0) dX14_init_137 (by decide) ?_
  refine X_aload_n (pc := 138) 0 dX14_init_138 rfl rfl ?_
  refine X_getfield (pc := 139) dX14_init_139 fg_X14_9_9 (o.ob w) (by first | rfl | assumption) ?_
  refine X_ivi (pc := 142) _ dX14_init_142 cv_X14_66_9 (o.ob w) rfl (is1) nX14_isSecret (Nat.le_of_ble_eq_true rfl) (Nat.le_of_ble_eq_true rfl) (Nat.le_of_ble_eq_true rfl) (Nat.le_of_ble_eq_true rfl) (fun r1 h1 q1 => ?_)
  obtain ⟨er, q1⟩ := q1
  obtain ⟨Rb, eR, oR, w1⟩ := XW.ab q1
  have fRb : ∀ j, ¬ (B ≤ j ∧ j < B + 100) → Rb j = R j := fun j hj => by rw [oR j (by omega)]; exact fR j hj
  by_cases cu : 0 < sk ∧ sk < qP
  · rw [if_pos cu] at er
    subst er
    refine X_if_ne (pc := 145) 155 dX14_init_145 (by decide) (fun _ => ?_) (fun c => absurd c (by decide))
    have xb1 : XB Rb := xb.fr fun j hj => fRb j (by omega)
    have okk : OpE kd' A' X Rb Sa O' F (tmS (B + 10)) (A' (B + 2)) 12 sk := by
      rw [← eR]
      exact OpE.g (mv := qP) (St.q o.se) (tmS_f (ecS_f (by omega) (by omega) (by omega) (by omega)) (by omega))
    refine X_aload_n (pc := 155) 1 dX14_init_155 rfl rfl ?_
    refine X_aload_n (pc := 156) 0 dX14_init_156 rfl rfl ?_
    refine X_getfield (pc := 157) dX14_init_157 fg_X14_9_9 (o.ob w1) (by first | rfl | assumption) ?_
    refine X_aload_n (pc := 160) 1 dX14_init_160 rfl rfl ?_
    refine X_getfield (pc := 161) dX14_init_161 fg_X14_76_3 (XW.cv w1) (by first | rfl | assumption) ?_
    refine X_aload_n (pc := 164) 0 dX14_init_164 rfl rfl ?_
    refine X_getfield (pc := 165) dX14_init_165 fg_X14_42_9 (o.ob w1) (by first | rfl | assumption) ?_
    refine X_ivv (pc := 168) _ dX14_init_168 cv_X14_81_3 (XW.cv w1) rfl (times_ok g w1 (P := B + 10) (Q := 60) o.pt (XW.pt60 w1) (by omega) (by decide) (by omega) (by omega) xb1 okk GP_on xb1.base) nX5_times (Nat.le_of_ble_eq_true rfl) (Nat.le_of_ble_eq_true rfl) (Nat.le_of_ble_eq_true rfl) (Nat.le_of_ble_eq_true rfl) (fun h2 q2 => ?_)
    obtain ⟨Rc, rc, vP, w2⟩ := q2
    have eRc : Rc (B + 2) = sk := by rw [rc _ (tmS_f (ecS_f (by omega) (by omega) (by omega) (by omega)) (by omega))]; exact eR
    have hn := k_G cu.1 cu.2
    have l6 : (Sa (B + 6)).length = 0 := by rw [sE]; rfl
    refine X_aload_n (pc := 171) 1 dX14_init_171 rfl rfl ?_
    refine X_aload_n (pc := 172) 0 dX14_init_172 rfl rfl ?_
    refine X_getfield (pc := 173) dX14_init_173 fg_X14_42_9 (o.ob w2) (by first | rfl | assumption) ?_
    refine X_aload_n (pc := 176) 0 dX14_init_176 rfl rfl ?_
    refine X_getfield (pc := 177) dX14_init_177 fg_X14_24_9 (o.ob w2) (by first | rfl | assumption) ?_
    refine X_iconst (pc := 180) (x := 0) dX14_init_180 (by decide) ?_
    rw [show (0 : Int32) = nI (Sa (B + 6)).length by rw [l6]; rfl]
    refine X_ivi (pc := 181) _ dX14_init_181 cv_X14_85_3 (XW.cv w2) rfl (xwriteP_ok g w2 (P := B + 10) (kt := B + 6) (nt := 49) o.pt (by omega) o.el (by decide) (by rw [l6]; decide) vP) nX5_write (Nat.le_of_ble_eq_true rfl) (Nat.le_of_ble_eq_true rfl) (Nat.le_of_ble_eq_true rfl) (Nat.le_of_ble_eq_true rfl) (fun r3 h3 q3 => ?_)
    obtain ⟨Rd, rd, ⟨er3, hD, w3⟩ | ⟨er3, hD, w3⟩⟩ := q3
    · exact absurd hD hn
    rw [sE, List.nil_append] at w3
    refine X_istore (pc := 184) (L' := [(4, .int _), (0, .ref _), (1, .ref _), (2, .ref _), (3, .ref _)]) dX14_init_184 (Nat.le_of_ble_eq_true rfl) rfl ?_
    subst hQ
    refine X_return (pc := 186) dX14_init_186 rfl (Nat.le_of_ble_eq_true rfl) (Nat.le_of_ble_eq_true rfl) ?_
    refine Or.inl ⟨rfl, cu, kd', A', O', Rd, _, G, aB, o, ?_, up_same _ _ _, fun j hj => ?_, fun j hj => ?_, w3⟩
    · rw [rd _ (cvS_f (by omega))]; exact eRc
    · have a := inR_ne hj
      rw [rd _ (cvS_f a.1), rc j (tmS_f (ecS_f (by omega) (by omega) (by omega) (by omega)) (by omega)), fRb j a.2.2]
    · rw [up_ne (by omega), fS j hj]
  · rw [if_neg cu] at er
    subst er
    refine X_if_ne (pc := 145) 155 dX14_init_145 (by decide) (fun c => absurd rfl c) (fun _ => ?_)
    refine X_aload_n (pc := 148) 2 dX14_init_148 rfl rfl ?_
    refine X_bipush (pc := 149) (x := (-2)) dX14_init_149 (by decide) ?_
    refine X_ivr (pc := 151) _ dX14_init_151 cv_X14_70_6 (XW.rf w1) rfl (as_ok g w1 (-2)) nX8_as (Nat.le_of_ble_eq_true rfl) (Nat.le_of_ble_eq_true rfl) (Nat.le_of_ble_eq_true rfl) (Nat.le_of_ble_eq_true rfl) (fun r2 h2 q2 => ?_)
    obtain ⟨rfl, w2⟩ := q2
    subst hQ
    refine X_athrow (pc := 154) dX14_init_154 rfl (Nat.le_of_ble_eq_true rfl) (Nat.le_of_ble_eq_true rfl) ?_
    exact Or.inr ⟨congrArg Outcome.threw g50, cu, kd', A', O', Rb, Sa, G, fun j hj => fRb j (inR_ne hj).2.2, fS, w2⟩
theorem blindedO_ok (g : GX) : MT g MX14_blinded ({ frames := 0, cells := 0, slots := 0, locals := 0 } : Room) [.ref b] h (RI fun r h' => r = 49 ∧ h' = h) := by
  refine MT.of (by decide) (Nat.le_of_ble_eq_true rfl) ?_
  refine X_bipush (pc := 0) (x := 49) dX14_blinded_0 (by decide) ?_
  refine X_ireturn (pc := 2) dX14_blinded_2 rfl (Nat.le_of_ble_eq_true rfl) (Nat.le_of_ble_eq_true rfl) ?_
  exact ⟨_, rfl, rfl, rfl⟩
theorem provedO_ok (g : GX) : MT g MX14_proved ({ frames := 0, cells := 0, slots := 0, locals := 0 } : Room) [.ref b] h (RI fun r h' => r = 48 ∧ h' = h) := by
  refine MT.of (by decide) (Nat.le_of_ble_eq_true rfl) ?_
  refine X_bipush (pc := 0) (x := 48) dX14_proved_0 (by decide) ?_
  refine X_ireturn (pc := 2) dX14_proved_2 rfl (Nat.le_of_ble_eq_true rfl) (Nat.le_of_ble_eq_true rfl) ?_
  exact ⟨_, rfl, rfl, rfl⟩
theorem blindO_ok (g : GX) : MT g MX14_blind ({ frames := 0, cells := 0, slots := 0, locals := 0 } : Room) [.ref b] h (RI fun r h' => r = 48 ∧ h' = h) := by
  refine MT.of (by decide) (Nat.le_of_ble_eq_true rfl) ?_
  refine X_bipush (pc := 0) (x := 48) dX14_blind_0 (by decide) ?_
  refine X_ireturn (pc := 2) dX14_blind_2 rfl (Nat.le_of_ble_eq_true rfl) (Nat.le_of_ble_eq_true rfl) ?_
  exact ⟨_, rfl, rfl, rfl⟩
theorem chanceO_ok (g : GX) : MT g MX14_chance ({ frames := 0, cells := 0, slots := 0, locals := 0 } : Room) [.ref b] h (RI fun r h' => r = 48 ∧ h' = h) := by
  refine MT.of (by decide) (Nat.le_of_ble_eq_true rfl) ?_
  refine X_bipush (pc := 0) (x := 48) dX14_chance_0 (by decide) ?_
  refine X_ireturn (pc := 2) dX14_chance_2 rfl (Nat.le_of_ble_eq_true rfl) (Nat.le_of_ble_eq_true rfl) ?_
  exact ⟨_, rfl, rfl, rfl⟩
theorem publicsO_ok (g : GX) : MT g MX14_publics ({ frames := 0, cells := 0, slots := 0, locals := 0 } : Room) [.ref b] h (RI fun r h' => r = 49 ∧ h' = h) := by
  refine MT.of (by decide) (Nat.le_of_ble_eq_true rfl) ?_
  refine X_bipush (pc := 0) (x := 49) dX14_publics_0 (by decide) ?_
  refine X_ireturn (pc := 2) dX14_publics_2 rfl (Nat.le_of_ble_eq_true rfl) (Nat.le_of_ble_eq_true rfl) ?_
  exact ⟨_, rfl, rfl, rfl⟩
theorem answersO_ok (g : GX) (many : Nat) : MT g MX14_answers ({ frames := 0, cells := 0, slots := 0, locals := 0 } : Room) [.ref b, .int (nI many)] h (RI fun r h' => r = nI (49 * many + 96) ∧ h' = h) := by
  refine MT.of (by decide) (Nat.le_of_ble_eq_true rfl) ?_
  refine X_bipush (pc := 0) (x := 49) dX14_answers_0 (by decide) ?_
  refine X_iload_n (pc := 2) 1 dX14_answers_2 rfl rfl ?_
  refine X_imul (pc := 3) dX14_answers_3 ?_
  refine X_bipush (pc := 4) (x := 96) dX14_answers_4 (by decide) ?_
  refine X_iadd (pc := 6) dX14_answers_6 ?_
  rw [show (49 : Int32) * nI many = nI (49 * many) from pk_mul 49 many, show nI (49 * many) + 96 = nI (49 * many + 96) from nI_add _ 96]
  refine X_ireturn (pc := 7) dX14_answers_7 rfl (Nat.le_of_ble_eq_true rfl) (Nat.le_of_ble_eq_true rfl) ?_
  exact ⟨_, rfl, rfl, rfl⟩
theorem publishO_ok (w : XW kd A X R S O F h) (o : ObK kd A O B lv) (hl : (S (B + 6)).length = 49) : MT g MX14_publish ({ frames := 1, cells := 0, slots := 0, locals := 48 } : Room) [.ref (A B), .ref (A 58)] h (RV fun h' => XW kd A X R (up S 58 (S (B + 6))) O F h') := by
  refine MT.of (by decide) (Nat.le_of_ble_eq_true rfl) ?_
  refine X_aload_n (pc := 0) 0 dX14_publish_0 rfl rfl ?_
  refine X_getfield (pc := 1) dX14_publish_1 fg_X14_24_9 (o.ob w) (by first | rfl | assumption) ?_
  refine X_iconst (pc := 4) (x := 0) dX14_publish_4 (by decide) ?_
  refine X_aload_n (pc := 5) 1 dX14_publish_5 rfl rfl ?_
  refine X_iconst (pc := 6) (x := 0) dX14_publish_6 (by decide) ?_
  refine X_bipush (pc := 7) (x := 49) dX14_publish_7 (by decide) ?_
  obtain ⟨f6, c6, p6, -⟩ := w.s (B + 6) o.el
  obtain ⟨f5, c5, p5, -⟩ := w.s 58 (w.k 58 (by decide))
  refine X_copyI (pc := 9) (0) (0) (49) dX14_publish_9 q810 (Or.inr rfl) c6 c5 rfl rfl rfl (by omega) (by omega) ⟨by omega, by omega⟩ (Nat.le_of_ble_eq_true rfl) (Nat.le_of_ble_eq_true rfl) ?_
  have w1 := w.cpy (ks := B + 6) (ns := 49) (sN := 0) (dN := 0) (n := 49) (w.k 58 (by decide)) p6 p5 (Nat.zero_le _) (by rw [hl]; decide) (by decide)
  rw [List.take_zero, List.nil_append, sub_all hl] at w1
  refine X_return (pc := 12) dX14_publish_12 rfl (Nat.le_of_ble_eq_true rfl) (Nat.le_of_ble_eq_true rfl) ?_
  exact ⟨rfl, w1⟩
end XOi
