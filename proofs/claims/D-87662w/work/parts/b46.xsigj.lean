set_option maxRecDepth 100000
/-! VeilMint's keys of the second type: making one, from the beginning -/
section XSj
variable {kd : Nat → KD} {A : Nat → Nat} {X : AH} {R : Nat → Nat} {S : Nat → List Int32} {O : Nat → AC} {F : Nat → Int32} {h : AH} {B : Nat} {g : GX} {b : Nat}
set_option maxHeartbeats 16000000 in
theorem sgInit_ok {T : List Int32} {sz : Nat} (y0 : BY b 10 sgz kd A X R S O F h) (hB : 100 ≤ B) (fk : ∀ j, B ≤ j → j < B + 100 → FreeK F j ∧ (kd j).1 = 0) (gw : Gw (KB B) kd A O kd A O) (hT : S 56 = T) (hBT : IsB T) (hTl : T.length ≤ 1200) (h136 : 136 ≤ T.length) (hsz : sz = (T.length - 4) / 2) :
    MT g MX15_init ({ frames := 5, cells := 20, slots := 1800, locals := 111 } : Room) [.ref b, .ref (A 6), .ref (A 50), .ref (A 56), .int (nI T.length)] h
      (TW (A 50) (RV fun h' => okTwo T ∧ ∃ kd' A' O' R' S' p ng, Gw (KB B) kd A O kd' A' O' ∧ A' B = b ∧ SgK kd' A' O' B sz (b8 (T.getD (T.length - 1) 0)) p (num T 0 sz) ng 1 ∧ R' (B + 2) = num T (sz + 3) sz ∧ R' (B + 9) = eN T sz ∧ S' (B + 6) = sub T 0 (sz + 3) ∧ (∀ j, ¬ (B ≤ j ∧ j < B + 100) → R' j = R j) ∧ (∀ j, ¬ (B ≤ j ∧ j < B + 100) → S' j = S j) ∧ XW kd' A' X R' S' O' F h')
        (fun h' => ¬ okTwo T ∧ ∃ kd' A' O' R' S', Gw (KB B) kd A O kd' A' O' ∧ (∀ j, ¬ (B ≤ j ∧ j < B + 100) → R' j = R j) ∧ (∀ j, ¬ (B ≤ j ∧ j < B + 100) → S' j = S j) ∧ XW kd' A' X R' S' O' (up F 24 (-2)) h')) := by
  refine MT.of (by decide) (Nat.le_of_ble_eq_true rfl) ?_
  generalize hQ : TW (A 50) _ _ = Q
  have z0 : ∀ i, i < 100 → FreeK F (B + i) ∧ (kd (B + i)).1 = 0 := fun i hi => fk _ (by omega) (by omega)
  refine X_aload_n (pc := 0) 0 dX15_init_0 rfl rfl ?_
  refine X_iconst (pc := 1) (x := 2) dX15_init_1 (by decide) ?_
  refine X_ipv (pc := 2) _ dX15_init_2 ci_X15_3 rfl (keyInit10_ok g y0.c) nX13_init (Nat.le_of_ble_eq_true rfl) (Nat.le_of_ble_eq_true rfl) (Nat.le_of_ble_eq_true rfl) (Nat.le_of_ble_eq_true rfl) (fun h0 q0 => ?_)
  obtain ⟨q1, hq1, rfl⟩ := q0
  obtain ⟨kd1, A1, S1, e1, a1, n1, g1, s1, y1⟩ := y0.growS (k := B + 1) 32 hq1 (z0 1 (by decide)).2 (z0 1 (by decide)).1
  have G1 := g1 (KB B) kd A O gw (KB_t (by omega))
  have y1 := y1.put (.ref q1 :: .int 2 :: .int 1 :: [.null, .null, .int 0, .int 0, .int 0, .null, .null, .null, .null, .null, .null, .null, .null, .null])
  generalize hset (hset h q1 _) b _ = h1 at y1 ⊢
  have g6 : A1 6 = A 6 := (G1.1 6 (KB_f (by omega))).2.1
  have g50 : A1 50 = A 50 := (G1.1 50 (KB_f (by omega))).2.1
  have g56 : A1 56 = A 56 := (G1.1 56 (KB_f (by omega))).2.1
  have hT1 : S1 56 = T := by rw [s1.2 56 (by omega)]; exact hT
  have fS1 : ∀ j, ¬ (B ≤ j ∧ j < B + 100) → S1 j = S j := fun j hj => s1.2 j (by omega)
  refine X_aload_n (pc := 5) 0 dX15_init_5 rfl rfl ?_
  refine X_aload_n (pc := 6) 1 dX15_init_6 rfl rfl ?_
  refine X_putfield (pc := 7) dX15_init_7 fp_X15_9_10 (fun _ => rfl) (BY.c y1) rfl rfl (Nat.le_of_ble_eq_true rfl) ?_
  refine X_aload_n (pc := 10) 0 dX15_init_10 rfl rfl ?_
  refine X_aload_n (pc := 11) 2 dX15_init_11 rfl rfl ?_
  refine X_putfield (pc := 12) dX15_init_12 fp_X15_15_10 (fun _ => rfl) (hset_self _ _ _) rfl rfl (Nat.le_of_ble_eq_true rfl) ?_
  have y1 := (y1.put' 3 (.ref (A 6))).put' 4 (.ref (A 50))
  generalize hset (hset h1 b _) b _ = h2 at y1 ⊢
  refine X_aload_n (pc := 15) 0 dX15_init_15 rfl rfl ?_
  refine X_iload (pc := 16) 4 dX15_init_16 rfl ?_
  refine X_iconst (pc := 18) (x := 4) dX15_init_18 (by decide) ?_
  refine X_isub (pc := 19) dX15_init_19 ?_
  rw [show nI T.length - 4 = nI (T.length - 4) from pk_sub (b := 4) (by omega)]
  refine X_iconst (pc := 20) (x := 2) dX15_init_20 (by decide) ?_
  refine X_idiv (pc := 21) dX15_init_21 (by decide) ?_
  rw [show nI (T.length - 4) / 2 = nI ((T.length - 4) / 2) from pk_div (d := 2) (by omega) (by decide) (by decide), ← hsz]
  refine X_putfield (pc := 22) dX15_init_22 fp_X15_19_10 (fun _ => rfl) (BY.c y1) rfl rfl (Nat.le_of_ble_eq_true rfl) ?_
  have y1 := y1.put' 5 (.int (nI sz))
  generalize hset h2 b _ = h3 at y1 ⊢
  obtain ⟨ft, ct, pt, -⟩ := y1.1.s 56 (y1.1.k 56 (by decide))
  rw [hT1] at pt
  rw [g56] at ct
  have bt : ∀ i, i < T.length → vp_in (nI i) 1200 := fun i hi => vp_in_nI (by omega) (by omega)
  have cx : ∀ i, i < T.length → (nI i).toNatClampNeg = i := fun i hi => nI_clamp (by omega)
  refine X_aload_n (pc := 25) 0 dX15_init_25 rfl rfl ?_
  refine X_aload_n (pc := 26) 3 dX15_init_26 rfl rfl ?_
  refine X_iload (pc := 27) 4 dX15_init_27 rfl ?_
  refine X_iconst (pc := 29) (x := 1) dX15_init_29 (by decide) ?_
  refine X_isub (pc := 30) dX15_init_30 ?_
  rw [show nI T.length - 1 = nI (T.length - 1) from by rw [show T.length = T.length - 1 + 1 by omega, nI_pred, Nat.add_sub_cancel]]
  refine X_baload (pc := 31) dX15_init_31 ct (bt _ (by omega)) ?_
  rw [cx _ (by omega), pt _ (by omega)]
  generalize hsx : T.getD (T.length - 1) 0 = sx at *
  refine X_putfield (pc := 32) dX15_init_32 fp_X15_23_10 (fun _ => rfl) (BY.c y1) rfl rfl (Nat.le_of_ble_eq_true rfl) ?_
  have y1 := y1.put' 6 (.int sx)
  have yy : BY b 10 [.ref q1, .int 2, .int 1, .ref (A 6), .ref (A 50), .int (nI sz), .int sx, .int 0, .null, .null, .null, .null, .null, .null, .null, .null, .null] kd1 A1 X R S1 O F (hset h3 b (Ob 10 ([.ref q1, .int 2, .int 1, .ref (A 6), .ref (A 50), .int (nI sz), .int sx, .int 0, .null, .null, .null, .null, .null, .null, .null, .null, .null]))) := y1
  have ec : hset h3 b (Ob 10 [.ref q1, .int 2, .int 1, .ref (A 6), .ref (A 50), .int (nI sz), .int sx, .int 0, .null, .null, .null, .null, .null, .null, .null, .null, .null]) (A 56) = some (Ai false 2 1200 ft) := by
    rw [hset_ne (by rw [← g56]; exact y1.2.2 56 (by rw [y1.1.k 56 (by decide)]; decide))]
    exact ct
  refine XX.eqh (h' := hset h3 b (Ob 10 [.ref q1, .int 2, .int 1, .ref (A 6), .ref (A 50), .int (nI sz), .int sx, .int 0, .null, .null, .null, .null, .null, .null, .null, .null, .null])) rfl ?_
  generalize hset h3 b (Ob 10 [.ref q1, .int 2, .int 1, .ref (A 6), .ref (A 50), .int (nI sz), .int sx, .int 0, .null, .null, .null, .null, .null, .null, .null, .null, .null]) = h4 at yy ec ⊢
  refine X_aload_n (pc := 35) 3 dX15_init_35 rfl rfl ?_
  refine X_aload_n (pc := 36) 0 dX15_init_36 rfl rfl ?_
  refine X_getfield (pc := 37) dX15_init_37 fg_X15_19_10 (BY.c yy) (by first | rfl | assumption) ?_
  refine X_baload (pc := 40) dX15_init_40 ec (bt _ (by omega)) ?_
  refine X_sipush (pc := 41) (x := 255) dX15_init_41 (by decide) ?_
  refine X_iand (pc := 44) dX15_init_44 ?_
  rw [cx _ (by omega), pt _ (by omega), and255b]
  refine X_bipush (pc := 45) (x := 16) dX15_init_45 (by decide) ?_
  refine X_ishl (pc := 47) dX15_init_47 ?_
  refine X_aload_n (pc := 48) 3 dX15_init_48 rfl rfl ?_
  refine X_aload_n (pc := 49) 0 dX15_init_49 rfl rfl ?_
  refine X_getfield (pc := 50) dX15_init_50 fg_X15_19_10 (BY.c yy) (by first | rfl | assumption) ?_
  refine X_iconst (pc := 53) (x := 1) dX15_init_53 (by decide) ?_
  refine X_iadd (pc := 54) dX15_init_54 ?_
  rw [show nI sz + 1 = nI (sz + 1) from nI_add sz 1]
  refine X_baload (pc := 55) dX15_init_55 ec (bt _ (by omega)) ?_
  refine X_sipush (pc := 56) (x := 255) dX15_init_56 (by decide) ?_
  refine X_iand (pc := 59) dX15_init_59 ?_
  rw [cx _ (by omega), pt _ (by omega), and255b]
  refine X_bipush (pc := 60) (x := 8) dX15_init_60 (by decide) ?_
  refine X_ishl (pc := 62) dX15_init_62 ?_
  refine X_ior (pc := 63) dX15_init_63 ?_
  refine X_aload_n (pc := 64) 3 dX15_init_64 rfl rfl ?_
  refine X_aload_n (pc := 65) 0 dX15_init_65 rfl rfl ?_
  refine X_getfield (pc := 66) dX15_init_66 fg_X15_19_10 (BY.c yy) (by first | rfl | assumption) ?_
  refine X_iconst (pc := 69) (x := 2) dX15_init_69 (by decide) ?_
  refine X_iadd (pc := 70) dX15_init_70 ?_
  rw [show nI sz + 2 = nI (sz + 2) from nI_add sz 2]
  refine X_baload (pc := 71) dX15_init_71 ec (bt _ (by omega)) ?_
  refine X_sipush (pc := 72) (x := 255) dX15_init_72 (by decide) ?_
  refine X_iand (pc := 75) dX15_init_75 ?_
  rw [cx _ (by omega), pt _ (by omega), and255b]
  refine X_ior (pc := 76) dX15_init_76 ?_
  have b8l : ∀ x : Int32, b8 x < 256 := fun x => Nat.mod_lt _ (by decide)
  rw [or3 (b8l _) (b8l _) (b8l _), show b8 (T.getD sz 0) * 65536 + b8 (T.getD (sz + 1) 0) * 256 + b8 (T.getD (sz + 2) 0) = eN T sz from rfl]
  have hel : eN T sz < 2 ^ 24 := by
    unfold eN
    have := b8l (T.getD sz 0)
    have := b8l (T.getD (sz + 1) 0)
    have := b8l (T.getD (sz + 2) 0)
    omega
  have hoke : okTwo T ↔ (T.length % 2 = 0 ∧ 66 ≤ sz ∧ sz ≤ 256 ∧ T.getD 0 0 ≠ 0 ∧ b8 (T.getD (sz - 1) 0) % 2 = 1 ∧ eN T sz % 2 = 1 ∧ 3 ≤ eN T sz ∧ eN T sz ≤ 65537 ∧ (sx = 0 ∨ (sx = 48 ∧ 100 ≤ sz)) ∧ num T (sz + 3) sz ≠ 0 ∧ num T (sz + 3) sz < num T 0 sz) := by
    unfold okTwo
    rw [← hsz, hsx]
    exact ⟨fun z => ⟨z.1, by omega, by omega, z.2.2.2⟩, fun z => ⟨z.1, by omega, by omega, z.2.2.2⟩⟩
  generalize hev : eN T sz = e at *
  refine X_istore (pc := 77) (L' := [(5, .int _), (0, .ref _), (1, .ref _), (2, .ref _), (3, .ref _), (4, .int _)]) dX15_init_77 (Nat.le_of_ble_eq_true rfl) rfl ?_
  -- it is no good
  have r175 : ¬ okTwo T → XX g MX15_init ({ frames := 5, cells := 20, slots := 1800, locals := 111 } : Room) Q 1 32 175 [(5, .int (nI e)), (0, .ref b), (1, .ref (A 6)), (2, .ref (A 50)), (3, .ref (A 56)), (4, .int (nI T.length))] [] h4 := by
    intro hn
    obtain ⟨kd5, A5, O5, eB, aB, oB, nB, gB, w5⟩ := yy.take (k := B) (by rw [(n1 _ (by omega)).1]; exact (z0 0 (by decide)).2) (z0 0 (by decide)).1
    have G5 := gB (KB B) kd A O G1 (KB_t (by omega))
    have g505 : A5 50 = A 50 := (G5.1 50 (KB_f (by omega))).2.1
    have ao := as_ok g w5 (-2)
    rw [g505] at ao
    refine X_iconst (pc := 175) (x := 0) dX15_init_175 (by decide) ?_
    refine X_istore (pc := 176) (L' := [(6, .int _), (5, .int _), (0, .ref _), (1, .ref _), (2, .ref _), (3, .ref _), (4, .int _)]) dX15_init_176 (Nat.le_of_ble_eq_true rfl) rfl ?_
    refine X_iload (pc := 178) 0 dX15_init_178 rfl ?_
    refine X_if_ne (pc := 180) 190 dX15_init_180 (by decide) (fun c => absurd rfl c) (fun _ => ?_)
    refine X_aload_n (pc := 183) 4 dX15_init_183 rfl rfl ?_
    refine X_bipush (pc := 184) (x := (-2)) dX15_init_184 (by decide) ?_
    refine X_ivr (pc := 186) _ dX15_init_186 cv_X15_27_6 (by have := XW.rf w5; rw [g505] at this; exact this) rfl (ao) nX8_as (Nat.le_of_ble_eq_true rfl) (Nat.le_of_ble_eq_true rfl) (Nat.le_of_ble_eq_true rfl) (Nat.le_of_ble_eq_true rfl) (fun r5 h5 q5 => ?_)
    obtain ⟨rfl, w6⟩ := q5
    refine X_athrow (pc := 189) dX15_init_189 rfl (Nat.le_of_ble_eq_true rfl) (Nat.le_of_ble_eq_true rfl) ?_
    rw [← hQ]
    exact Or.inr ⟨rfl, hn, kd5, A5, O5, R, S1, G5, fun _ _ => rfl, fS1, w6⟩
  refine X_iload (pc := 79) 5 dX15_init_79 rfl ?_
  refine X_iconst (pc := 81) (x := 1) dX15_init_81 (by decide) ?_
  refine X_iand (pc := 82) dX15_init_82 ?_
  have hu1 : u32 (nI T.length) = T.length := pk_tn (by omega)
  by_cases c1 : T.length % 2 = 0
  rotate_left
  · exact X_if_ne (pc := 83) 175 dX15_init_83 (by decide) (fun _ => r175 (fun z => c1 (hoke.mp z).1)) (fun z => absurd ((and1 _).mp z) (by rw [hu1]; exact c1))
  refine X_if_ne (pc := 83) 175 dX15_init_83 (by decide) (fun z => absurd ((and1 _).mpr (by rw [hu1]; exact c1)) z) (fun _ => ?_)
  refine X_aload_n (pc := 86) 1 dX15_init_86 rfl rfl ?_
  refine X_getfield (pc := 87) dX15_init_87 fg_X15_19_10 (BY.c yy) (by first | rfl | assumption) ?_
  refine X_bipush (pc := 90) (x := 66) dX15_init_90 (by decide) ?_
  by_cases c2 : 66 ≤ sz
  rotate_left
  · omega
  refine X_icmp_lt (pc := 92) 175 dX15_init_92 (by decide) (fun z => absurd ((nI_ltI (b := 66) (by omega) (by decide)).mp z) (by omega)) (fun _ => ?_)
  refine X_aload_n (pc := 95) 1 dX15_init_95 rfl rfl ?_
  refine X_getfield (pc := 96) dX15_init_96 fg_X15_19_10 (BY.c yy) (by first | rfl | assumption) ?_
  refine X_sipush (pc := 99) (x := 256) dX15_init_99 (by decide) ?_
  by_cases c3 : sz ≤ 256
  rotate_left
  · exact X_icmp_gt (pc := 102) 175 dX15_init_102 (by decide) (fun _ => r175 (fun z => c3 (hoke.mp z).2.2.1)) (fun z => absurd (nI_lt (a := 256) (by omega) (by omega)) z)
  refine X_icmp_gt (pc := 102) 175 dX15_init_102 (by decide) (fun z => absurd ((nI_ltI (a := 256) (by decide) (by omega)).mp z) (by omega)) (fun _ => ?_)
  refine X_aload_n (pc := 105) 4 dX15_init_105 rfl rfl ?_
  refine X_iconst (pc := 106) (x := 0) dX15_init_106 (by decide) ?_
  refine X_baload (pc := 107) dX15_init_107 ec (bt 0 (by omega)) ?_
  rw [show ((0 : Int32).toNatClampNeg) = 0 from rfl, pt 0 (by omega)]
  by_cases c4 : T.getD 0 0 = 0
  · exact X_if_eq (pc := 108) 175 dX15_init_108 (by decide) (fun _ => r175 (fun z => (hoke.mp z).2.2.2.1 c4)) (fun z => absurd c4 z)
  refine X_if_eq (pc := 108) 175 dX15_init_108 (by decide) (fun z => absurd z c4) (fun _ => ?_)
  refine X_aload_n (pc := 111) 4 dX15_init_111 rfl rfl ?_
  refine X_aload_n (pc := 112) 1 dX15_init_112 rfl rfl ?_
  refine X_getfield (pc := 113) dX15_init_113 fg_X15_19_10 (BY.c yy) (by first | rfl | assumption) ?_
  refine X_iconst (pc := 116) (x := 1) dX15_init_116 (by decide) ?_
  refine X_isub (pc := 117) dX15_init_117 ?_
  rw [show nI sz - 1 = nI (sz - 1) from by rw [show sz = sz - 1 + 1 by omega, nI_pred, Nat.add_sub_cancel]]
  refine X_baload (pc := 118) dX15_init_118 ec (bt _ (by omega)) ?_
  refine X_iconst (pc := 119) (x := 1) dX15_init_119 (by decide) ?_
  refine X_iand (pc := 120) dX15_init_120 ?_
  refine X_iconst (pc := 121) (x := 1) dX15_init_121 (by decide) ?_
  rw [cx _ (by omega), pt _ (by omega)]
  have hb2 : b8 (T.getD (sz - 1) 0) % 2 = u32 (T.getD (sz - 1) 0) % 2 := by
    show u32 (T.getD (sz - 1) 0) % 256 % 2 = _
    omega
  have e1x : ∀ x : Int32, x &&& 1 = 1 ↔ u32 x % 2 = 1 := fun x => by
    have ex : x &&& 1 = nI (u32 x % 2) := pk_and x (m := 1) 1 rfl
    rw [ex]
    have : u32 x % 2 = 0 ∨ u32 x % 2 = 1 := by omega
    rcases this with z | z
    · rw [z]; exact ⟨fun q => absurd q (by decide), fun q => absurd q (by decide)⟩
    · rw [z]; exact ⟨fun _ => rfl, fun _ => rfl⟩
  by_cases c5 : u32 (T.getD (sz - 1) 0) % 2 = 1
  rotate_left
  · exact X_icmp_ne (pc := 122) 175 dX15_init_122 (by decide) (fun _ => r175 (fun z => c5 (by rw [← hb2]; exact (hoke.mp z).2.2.2.2.1))) (fun z => absurd ((e1x _).mp z) c5)
  refine X_icmp_ne (pc := 122) 175 dX15_init_122 (by decide) (fun z => absurd ((e1x _).mpr c5) z) (fun _ => ?_)
  have hu2 : u32 (nI e) = e := pk_tn (by omega)
  refine X_iload (pc := 125) 0 dX15_init_125 rfl ?_
  refine X_iconst (pc := 127) (x := 1) dX15_init_127 (by decide) ?_
  refine X_iand (pc := 128) dX15_init_128 ?_
  refine X_iconst (pc := 129) (x := 1) dX15_init_129 (by decide) ?_
  by_cases c6 : e % 2 = 1
  rotate_left
  · exact X_icmp_ne (pc := 130) 175 dX15_init_130 (by decide) (fun _ => r175 (fun z => c6 (hoke.mp z).2.2.2.2.2.1)) (fun z => absurd ((e1x _).mp z) (by rw [hu2]; exact c6))
  refine X_icmp_ne (pc := 130) 175 dX15_init_130 (by decide) (fun z => absurd ((e1x _).mpr (by rw [hu2]; exact c6)) z) (fun _ => ?_)
  refine X_iload (pc := 133) 0 dX15_init_133 rfl ?_
  refine X_iconst (pc := 135) (x := 3) dX15_init_135 (by decide) ?_
  by_cases c7 : 3 ≤ e
  rotate_left
  · exact X_icmp_lt (pc := 136) 175 dX15_init_136 (by decide) (fun _ => r175 (fun z => c7 (hoke.mp z).2.2.2.2.2.2.1)) (fun z => absurd (nI_lt (b := 3) (by omega) (by decide)) z)
  refine X_icmp_lt (pc := 136) 175 dX15_init_136 (by decide) (fun z => absurd ((nI_ltI (b := 3) (by omega) (by decide)).mp z) (by omega)) (fun _ => ?_)
  refine X_iload (pc := 139) 0 dX15_init_139 rfl ?_
  refine X_ldc (pc := 141) dX15_init_141 q747 ?_
  by_cases c8 : e ≤ 65537
  rotate_left
  · exact X_icmp_gt (pc := 143) 175 dX15_init_143 (by decide) (fun _ => r175 (fun z => c8 (hoke.mp z).2.2.2.2.2.2.2.1)) (fun z => absurd (nI_lt (a := 65537) (by omega) (by omega)) z)
  refine X_icmp_gt (pc := 143) 175 dX15_init_143 (by decide) (fun z => absurd ((nI_ltI (a := 65537) (by decide) (by omega)).mp z) (by omega)) (fun _ => ?_)
  have main : (sx = 0 ∨ (sx = 48 ∧ 100 ≤ sz)) → XX g MX15_init ({ frames := 5, cells := 20, slots := 1800, locals := 111 } : Room) Q 1 32 171 [(5, .int (nI e)), (0, .ref b), (1, .ref (A 6)), (2, .ref (A 50)), (3, .ref (A 56)), (4, .int (nI T.length))] [] h4 := by
    intro hsx2
    have hok9 : okTwo T ↔ (num T (sz + 3) sz ≠ 0 ∧ num T (sz + 3) sz < num T 0 sz) := by
      rw [hoke]
      exact ⟨fun z => z.2.2.2.2.2.2.2.2.2, fun z => ⟨c1, c2, c3, c4, by omega, c6, c7, c8, hsx2, z⟩⟩
    have hs2 : b8 sx = 0 ∨ (b8 sx = 48 ∧ 100 ≤ sz) := by
      rcases hsx2 with rfl | ⟨rfl, z⟩
      · exact Or.inl rfl
      · exact Or.inr ⟨rfl, z⟩
    have hs3 : sx = nI (b8 sx) := by
      rcases hsx2 with rfl | ⟨rfl, z⟩
      · rfl
      · rfl
    refine X_iconst (pc := 171) (x := 1) dX15_init_171 (by decide) ?_
    refine X_goto (pc := 172) 176 dX15_init_172 (by decide) ?_
    refine X_istore (pc := 176) (L' := [(6, .int _), (5, .int _), (0, .ref _), (1, .ref _), (2, .ref _), (3, .ref _), (4, .int _)]) dX15_init_176 (Nat.le_of_ble_eq_true rfl) rfl ?_
    refine X_iload (pc := 178) 0 dX15_init_178 rfl ?_
    refine X_if_ne (pc := 180) 190 dX15_init_180 (by decide) (fun _ => ?_) (fun c => absurd c (by decide))
    rw [← g6, ← g50, ← g56]
    have yz := yy
    rw [hs3, ← g6, ← g50] at yz
    refine sgInit2 (q1 := q1) (sz := sz) (s := b8 sx) (e := e) (d := num T (sz + 3) sz) (mv := num T 0 sz) yz hB e1 a1 (fun j h1 h2 h3 => ?_) G1.self hT1 hBT hTl hsz c2 c3 (by omega) c4 (by omega) (by omega) hs2 rfl rfl (fun kd' A' O' R' S' h' p ng x1 x2 x3 x4 x5 x6 x7 x8 x9 x10 => ?_) (fun kd' A' O' R' S' h' x1 x2 x3 x4 x5 => ?_)
    · rw [(n1 j (by omega)).1]; exact fk j h1 h2
    · rw [← hQ]
      exact Or.inl ⟨rfl, hok9.mpr x10, kd', A', O', R', S', p, ng, G1.trans x1, x2, x3, x4, x5, x6, x7, fun j hj => by rw [x8 j hj, fS1 j hj], x9⟩
    · rw [← hQ]
      exact Or.inr ⟨congrArg Outcome.threw g50, fun z => x5 (hok9.mp z), kd', A', O', R', S', G1.trans x1, x2, fun j hj => by rw [x3 j hj, fS1 j hj], x4⟩
  refine X_aload_n (pc := 146) 1 dX15_init_146 rfl rfl ?_
  refine X_getfield (pc := 147) dX15_init_147 fg_X15_23_10 (BY.c yy) (by first | rfl | assumption) ?_
  by_cases c9 : sx = 0
  · refine X_if_eq (pc := 150) 171 dX15_init_150 (by decide) (fun _ => main (Or.inl c9)) (fun z => absurd c9 z)
  refine X_if_eq (pc := 150) 171 dX15_init_150 (by decide) (fun z => absurd z c9) (fun _ => ?_)
  refine X_aload_n (pc := 153) 1 dX15_init_153 rfl rfl ?_
  refine X_getfield (pc := 154) dX15_init_154 fg_X15_23_10 (BY.c yy) (by first | rfl | assumption) ?_
  refine X_bipush (pc := 157) (x := 48) dX15_init_157 (by decide) ?_
  by_cases c10 : sx = 48
  rotate_left
  · exact X_icmp_ne (pc := 159) 175 dX15_init_159 (by decide) (fun _ => r175 (fun z => (hoke.mp z).2.2.2.2.2.2.2.2.1.elim c9 (fun q => c10 q.1))) (fun z => absurd z c10)
  refine X_icmp_ne (pc := 159) 175 dX15_init_159 (by decide) (fun z => absurd c10 z) (fun _ => ?_)
  refine X_aload_n (pc := 162) 1 dX15_init_162 rfl rfl ?_
  refine X_getfield (pc := 163) dX15_init_163 fg_X15_19_10 (BY.c yy) (by first | rfl | assumption) ?_
  refine X_bipush (pc := 166) (x := 100) dX15_init_166 (by decide) ?_
  by_cases c11 : 100 ≤ sz
  rotate_left
  · exact X_icmp_lt (pc := 168) 175 dX15_init_168 (by decide) (fun _ => r175 (fun z => (hoke.mp z).2.2.2.2.2.2.2.2.1.elim c9 (fun q => c11 q.2))) (fun z => absurd (nI_lt (b := 100) (by omega) (by decide)) z)
  refine X_icmp_lt (pc := 168) 175 dX15_init_168 (by decide) (fun z => absurd ((nI_ltI (b := 100) (by omega) (by decide)).mp z) (by omega)) (fun _ => ?_)
  exact main (Or.inr ⟨c10, c11⟩)
end XSj
