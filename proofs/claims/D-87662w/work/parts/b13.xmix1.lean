set_option maxRecDepth 100000
/-! VeilMint's short digest: its compression -/
theorem rot_ok (g : GX) (h : AH) (x d : Int32) (hd : (-d) &&& 31 = (32 - d) &&& 31) : MT g MJ4_rotateRight ({ frames := 0, cells := 0, slots := 0, locals := 0 } : Room) [.int x, .int d] h (RI fun r h' => r = rolI x d ∧ h' = h) := by
  refine MT.of (by decide) (Nat.le_of_ble_eq_true rfl) ?_
  refine X_iload_n (pc := 0) 0 dJ4_rotateRight_0 rfl rfl ?_
  refine X_iload_n (pc := 1) 1 dJ4_rotateRight_1 rfl rfl ?_
  refine X_iushr (pc := 2) dJ4_rotateRight_2 ?_
  refine X_iload_n (pc := 3) 0 dJ4_rotateRight_3 rfl rfl ?_
  refine X_iload_n (pc := 4) 1 dJ4_rotateRight_4 rfl rfl ?_
  refine X_ineg (pc := 5) dJ4_rotateRight_5 ?_
  refine X_ishl (pc := 6) dJ4_rotateRight_6 ?_
  refine X_ior (pc := 7) dJ4_rotateRight_7 ?_
  refine X_ireturn (pc := 8) dJ4_rotateRight_8 rfl (Nat.le_of_ble_eq_true rfl) (Nat.le_of_ble_eq_true rfl) ?_
  refine ⟨_, rfl, ?_, rfl⟩
  unfold rolI
  rw [hd]
theorem lrot_ok (g : GX) (h : AH) (x : Int64) (d : Int32) (hd : (-d).toInt64 &&& 63 = (64 - d).toInt64 &&& 63) : MT g MJ8_rotateRight ({ frames := 0, cells := 0, slots := 0, locals := 0 } : Room) [.long x, .int d] h (RL fun r h' => r = rolL x d ∧ h' = h) := by
  refine MT.of (by decide) (Nat.le_of_ble_eq_true rfl) ?_
  refine X_lload_n (pc := 0) 0 dJ8_rotateRight_0 rfl rfl ?_
  refine X_iload_n (pc := 1) 1 dJ8_rotateRight_1 rfl rfl ?_
  refine X_lushr (pc := 2) dJ8_rotateRight_2 ?_
  refine X_lload_n (pc := 3) 0 dJ8_rotateRight_3 rfl rfl ?_
  refine X_iload_n (pc := 4) 1 dJ8_rotateRight_4 rfl rfl ?_
  refine X_ineg (pc := 5) dJ8_rotateRight_5 ?_
  refine X_lshl (pc := 6) dJ8_rotateRight_6 ?_
  refine X_lor (pc := 7) dJ8_rotateRight_7 ?_
  refine X_lreturn (pc := 8) dJ8_rotateRight_8 rfl (Nat.le_of_ble_eq_true rfl) (Nat.le_of_ble_eq_true rfl) ?_
  refine ⟨_, rfl, ?_, rfl⟩
  unfold rolL
  rw [hd]
theorem or_nI {a b s : Nat} (hb : b < 2 ^ s) (h : 2 ^ s * a + b < 2 ^ 32) : nI (2 ^ s * a) ||| nI b = nI (2 ^ s * a + b) := by
  apply u32_inj
  rw [u32_or_dis (s := s) (a := a) (b := b) (by rw [u32_nI, Nat.mod_eq_of_lt (by omega)]) (by rw [u32_nI, Nat.mod_eq_of_lt (by omega)]) hb, u32_nI, Nat.mod_eq_of_lt h]
theorem wd4 (m : Nat → Int32) (a i : Nat) : ((m (a + 4 * i + 0) &&& 255) <<< ((24 : Int32) &&& 31) ||| (m (a + 4 * i + 1) &&& 255) <<< ((16 : Int32) &&& 31) ||| (m (a + 4 * i + 2) &&& 255) <<< ((8 : Int32) &&& 31) ||| (m (a + 4 * i + 3) &&& 255)) = wdP m a i 4 := by
  show _ = ((((0 : Int32) <<< ((8 : Int32) &&& 31) ||| (m (a + 4 * i + 0) &&& 255)) <<< ((8 : Int32) &&& 31) ||| (m (a + 4 * i + 1) &&& 255)) <<< ((8 : Int32) &&& 31) ||| (m (a + 4 * i + 2) &&& 255)) <<< ((8 : Int32) &&& 31) ||| (m (a + 4 * i + 3) &&& 255)
  rw [and255b, and255b, and255b, and255b]
  have h0 : b8 (m (a + 4 * i + 0)) < 256 := Nat.mod_lt _ (by decide)
  have h1 : b8 (m (a + 4 * i + 1)) < 256 := Nat.mod_lt _ (by decide)
  have h2 : b8 (m (a + 4 * i + 2)) < 256 := Nat.mod_lt _ (by decide)
  have h3 : b8 (m (a + 4 * i + 3)) < 256 := Nat.mod_lt _ (by decide)
  generalize b8 (m (a + 4 * i + 0)) = x0 at *
  generalize b8 (m (a + 4 * i + 1)) = x1 at *
  generalize b8 (m (a + 4 * i + 2)) = x2 at *
  generalize b8 (m (a + 4 * i + 3)) = x3 at *
  have z : (0 : Int32) <<< ((8 : Int32) &&& 31) ||| nI x0 = nI x0 := by
    rw [show (0 : Int32) <<< ((8 : Int32) &&& 31) = nI (2 ^ 8 * 0) from by decide, or_nI (by omega) (by omega)]
    congr 1
    omega
  have s8 : ∀ y, y * 2 ^ 8 < 2 ^ 32 → nI y <<< ((8 : Int32) &&& 31) = nI (2 ^ 8 * y) := fun y hy => by rw [pk_shlN _ 8 (by decide) hy, Nat.mul_comm]
  have s16 : ∀ y, y * 2 ^ 16 < 2 ^ 32 → nI y <<< ((16 : Int32) &&& 31) = nI (2 ^ 16 * y) := fun y hy => by rw [pk_shlN _ 16 (by decide) hy, Nat.mul_comm]
  have s24 : ∀ y, y * 2 ^ 24 < 2 ^ 32 → nI y <<< ((24 : Int32) &&& 31) = nI (2 ^ 24 * y) := fun y hy => by rw [pk_shlN _ 24 (by decide) hy, Nat.mul_comm]
  rw [z, s8 x0 (by omega), or_nI (a := x0) (b := x1) (s := 8) (by omega) (by omega), s8 (2 ^ 8 * x0 + x1) (by omega), or_nI (a := 2 ^ 8 * x0 + x1) (b := x2) (s := 8) (by omega) (by omega), s8 (2 ^ 8 * (2 ^ 8 * x0 + x1) + x2) (by omega), or_nI (a := 2 ^ 8 * (2 ^ 8 * x0 + x1) + x2) (b := x3) (s := 8) (by omega) (by omega)]
  rw [s24 x0 (by omega), s16 x1 (by omega), s8 x2 (by omega), or_nI (s := 24) (by omega) (by omega), show 2 ^ 24 * x0 + 2 ^ 16 * x1 = 2 ^ 16 * (2 ^ 8 * x0 + x1) by omega, or_nI (s := 16) (by omega) (by omega), show 2 ^ 16 * (2 ^ 8 * x0 + x1) + 2 ^ 8 * x2 = 2 ^ 8 * (2 ^ 8 * (2 ^ 8 * x0 + x1) + x2) by omega, or_nI (s := 8) (by omega) (by omega)]
theorem add3 (a s b : Int32) : a + s + b = a + b + s := by rw [Int32.add_assoc, Int32.add_comm s b, ← Int32.add_assoc]
set_option maxHeartbeats 4000000 in
theorem x3_mix_s1 (g : GX) {h : AH} {D ab ao ah aw : Nat} {mn : Int64} {at' : Int32} {fb : Nat → Int32} {fc fw : Nat → Int32} (hD : h D = some (Ob 1 [.ref ab, .ref ao, .long mn, .int at', .ref ah, .ref aw])) (hb : h ab = some (Ai false 2 64 fb)) (hh : h ah = some (Ai false 0 8 (fc))) (hw : h aw = some (Ai false 0 64 (fw))) (n1 : ah ≠ aw) {Post : Outcome → AH → Prop} (n2 : ab ≠ aw)
    (fin : ∀ f, IsSched fb 0 16 f → XX g MX3_mix ({ frames := 1, cells := 0, slots := 0, locals := 21 } : Room) Post 0 0 86 [(1, .int (nI 16)), (0, .ref D)] [] (hset h aw (Ai false 0 64 (f)))) :
    XX g MX3_mix ({ frames := 1, cells := 0, slots := 0, locals := 21 } : Room) Post 0 0 0 [(0, .ref D)] [] h := by
  have n3 : D ≠ aw := ne_of hD hw (fun e => by cases e)
  have loop : ∀ m i, i + m = 16 → ∀ f : Nat → Int32, IsSched fb 0 i f → XX g MX3_mix ({ frames := 1, cells := 0, slots := 0, locals := 21 } : Room) Post 0 0 2 [(1, .int (nI i)), (0, .ref D)] [] (hset h aw (Ai false 0 64 (f))) := by
    intro m
    induction m with
    | zero =>
      intro i hi f hf
      have e : i = 16 := by omega
      subst e
      refine X_iload_n (pc := 2) 0 dX3_mix_2 rfl rfl ?_
      refine X_bipush (pc := 3) (x := 16) dX3_mix_3 (by decide) ?_
      refine X_cge (a := 16) (b := 16) (pc := 5) 86 dX3_mix_5 (by decide) (by omega) (by omega) (fun _ => ?_) (fun c => absurd c (by omega))
      exact fin f hf
    | succ m ih =>
      intro i hi f hf
      have c1 := hset_self h aw (Ai false 0 64 (f))
      have cD : hset h aw (Ai false 0 64 (f)) D = some (Ob 1 [.ref ab, .ref ao, .long mn, .int at', .ref ah, .ref aw]) := by rw [hset_ne n3]; exact hD
      have cb : hset h aw (Ai false 0 64 (f)) ab = some (Ai false 2 64 fb) := by rw [hset_ne n2]; exact hb
      have ci : (nI i).toNatClampNeg = i := nI_clamp (by omega)
      have b1 : vp_in (nI i) 64 := vp_in_nI (by omega) (by omega)
      have bx : ∀ k, k < 4 → vp_in (nI (4 * i + k)) 64 := fun k hk => vp_in_nI (by omega) (by omega)
      have cx : ∀ k, k < 4 → (nI (4 * i + k)).toNatClampNeg = 4 * i + k := fun k hk => nI_clamp (by omega)
      have m4 : (4 : Int32) * nI i = nI (4 * i) := pk_mul 4 i
      refine X_iload_n (pc := 2) 0 dX3_mix_2 rfl rfl ?_
      refine X_bipush (pc := 3) (x := 16) dX3_mix_3 (by decide) ?_
      refine X_cge (b := 16) (pc := 5) 86 dX3_mix_5 (by decide) (by omega) (by omega) (fun c => absurd c (by omega)) (fun _ => ?_)
      refine X_aload_n (pc := 8) 1 dX3_mix_8 rfl rfl ?_
      refine X_getfield (pc := 9) dX3_mix_9 fg_X3_13_1 cD (by first | rfl | assumption) ?_
      refine X_iload_n (pc := 12) 0 dX3_mix_12 rfl rfl ?_
      refine X_aload_n (pc := 13) 1 dX3_mix_13 rfl rfl ?_
      refine X_getfield (pc := 14) dX3_mix_14 fg_X3_24_1 cD (by first | rfl | assumption) ?_
      refine X_iconst (pc := 17) (x := 4) dX3_mix_17 (by decide) ?_
      refine X_iload_n (pc := 18) 0 dX3_mix_18 rfl rfl ?_
      refine X_imul (pc := 19) dX3_mix_19 ?_
      rw [m4]
      refine X_baload (pc := 20) dX3_mix_20 cb (bx 0 (by decide)) ?_
      refine X_sipush (pc := 21) (x := 255) dX3_mix_21 (by decide) ?_
      refine X_iand (pc := 24) dX3_mix_24 ?_
      refine X_bipush (pc := 25) (x := 24) dX3_mix_25 (by decide) ?_
      refine X_ishl (pc := 27) dX3_mix_27 ?_
      refine X_aload_n (pc := 28) 1 dX3_mix_28 rfl rfl ?_
      refine X_getfield (pc := 29) dX3_mix_29 fg_X3_24_1 cD (by first | rfl | assumption) ?_
      refine X_iconst (pc := 32) (x := 4) dX3_mix_32 (by decide) ?_
      refine X_iload_n (pc := 33) 0 dX3_mix_33 rfl rfl ?_
      refine X_imul (pc := 34) dX3_mix_34 ?_
      refine X_iconst (pc := 35) (x := 1) dX3_mix_35 (by decide) ?_
      refine X_iadd (pc := 36) dX3_mix_36 ?_
      rw [m4, show nI (4 * i) + 1 = nI (4 * i + 1) from nI_add _ 1, show (nI (4 * i)).toNatClampNeg = 4 * i + 0 from cx 0 (by decide)]
      refine X_baload (pc := 37) dX3_mix_37 cb (bx 1 (by decide)) ?_
      refine X_sipush (pc := 38) (x := 255) dX3_mix_38 (by decide) ?_
      refine X_iand (pc := 41) dX3_mix_41 ?_
      refine X_bipush (pc := 42) (x := 16) dX3_mix_42 (by decide) ?_
      refine X_ishl (pc := 44) dX3_mix_44 ?_
      refine X_ior (pc := 45) dX3_mix_45 ?_
      refine X_aload_n (pc := 46) 1 dX3_mix_46 rfl rfl ?_
      refine X_getfield (pc := 47) dX3_mix_47 fg_X3_24_1 cD (by first | rfl | assumption) ?_
      refine X_iconst (pc := 50) (x := 4) dX3_mix_50 (by decide) ?_
      refine X_iload_n (pc := 51) 0 dX3_mix_51 rfl rfl ?_
      refine X_imul (pc := 52) dX3_mix_52 ?_
      refine X_iconst (pc := 53) (x := 2) dX3_mix_53 (by decide) ?_
      refine X_iadd (pc := 54) dX3_mix_54 ?_
      rw [m4, show nI (4 * i) + 2 = nI (4 * i + 2) from nI_add _ 2, cx 1 (by decide)]
      refine X_baload (pc := 55) dX3_mix_55 cb (bx 2 (by decide)) ?_
      refine X_sipush (pc := 56) (x := 255) dX3_mix_56 (by decide) ?_
      refine X_iand (pc := 59) dX3_mix_59 ?_
      refine X_bipush (pc := 60) (x := 8) dX3_mix_60 (by decide) ?_
      refine X_ishl (pc := 62) dX3_mix_62 ?_
      refine X_ior (pc := 63) dX3_mix_63 ?_
      refine X_aload_n (pc := 64) 1 dX3_mix_64 rfl rfl ?_
      refine X_getfield (pc := 65) dX3_mix_65 fg_X3_24_1 cD (by first | rfl | assumption) ?_
      refine X_iconst (pc := 68) (x := 4) dX3_mix_68 (by decide) ?_
      refine X_iload_n (pc := 69) 0 dX3_mix_69 rfl rfl ?_
      refine X_imul (pc := 70) dX3_mix_70 ?_
      refine X_iconst (pc := 71) (x := 3) dX3_mix_71 (by decide) ?_
      refine X_iadd (pc := 72) dX3_mix_72 ?_
      rw [m4, show nI (4 * i) + 3 = nI (4 * i + 3) from nI_add _ 3, cx 2 (by decide)]
      refine X_baload (pc := 73) dX3_mix_73 cb (bx 3 (by decide)) ?_
      refine X_sipush (pc := 74) (x := 255) dX3_mix_74 (by decide) ?_
      refine X_iand (pc := 77) dX3_mix_77 ?_
      refine X_ior (pc := 78) dX3_mix_78 ?_
      rw [cx 3 (by decide)]
      have e4 := wd4 fb 0 i
      rw [Nat.zero_add] at e4
      rw [e4]
      refine X_iastore (pc := 79) dX3_mix_79 c1 b1 ?_
      refine X_iinc (pc := 80) (L' := [(1, .int (_ + 1)), (0, .ref _)]) 0 dX3_mix_80 rfl rfl (Nat.le_of_ble_eq_true rfl) rfl ?_
      refine X_goto (pc := 83) 2 dX3_mix_83 (by decide) ?_
      rw [ci, hset_hset, show nI i + 1 = nI (i + 1) from nI_add i 1]
      exact ih (i + 1) (by omega) _ (hf.snoc (fun _ => rfl) (fun c => absurd c (by omega)))
  refine X_iconst (pc := 0) (x := 0) dX3_mix_0 (by decide) ?_
  refine X_istore_n (pc := 1) (L' := [(1, .int _), (0, .ref _)]) dX3_mix_1 rfl (Nat.le_of_ble_eq_true rfl) rfl ?_
  have := loop 16 0 (by omega) fw (fun i hi => absurd hi (by omega))
  rw [hset_same hw] at this
  exact this
set_option maxHeartbeats 4000000 in
theorem x3_mix_s2 (g : GX) {h : AH} {D ab ao ah aw : Nat} {mn : Int64} {at' : Int32} {fb : Nat → Int32} {fc fw : Nat → Int32} (hD : h D = some (Ob 1 [.ref ab, .ref ao, .long mn, .int at', .ref ah, .ref aw])) (hb : h ab = some (Ai false 2 64 fb)) (hh : h ah = some (Ai false 0 8 (fc))) (hw : h aw = some (Ai false 0 64 (fw))) (n1 : ah ≠ aw) {Post : Outcome → AH → Prop} {f0 : Nat → Int32} (hf0 : IsSched fb 0 16 f0)
    (fin : ∀ f, IsSched fb 0 64 f → XX g MX3_mix ({ frames := 1, cells := 0, slots := 0, locals := 21 } : Room) Post 0 0 212 [(1, .int (nI 64)), (0, .ref D)] [] (hset h aw (Ai false 0 64 (f)))) :
    XX g MX3_mix ({ frames := 1, cells := 0, slots := 0, locals := 21 } : Room) Post 0 0 86 [(1, .int (nI 16)), (0, .ref D)] [] (hset h aw (Ai false 0 64 (f0))) := by
  have n3 : D ≠ aw := ne_of hD hw (fun e => by cases e)
  have loop : ∀ m i, i + m = 64 → 16 ≤ i → ∀ f : Nat → Int32, IsSched fb 0 i f → XX g MX3_mix ({ frames := 1, cells := 0, slots := 0, locals := 21 } : Room) Post 0 0 89 [(1, .int (nI i)), (0, .ref D)] [] (hset h aw (Ai false 0 64 (f))) := by
    intro m
    induction m with
    | zero =>
      intro i hi h16 f hf
      have e : i = 64 := by omega
      subst e
      refine X_iload_n (pc := 89) 0 dX3_mix_89 rfl rfl ?_
      refine X_bipush (pc := 90) (x := 64) dX3_mix_90 (by decide) ?_
      refine X_cge (a := 64) (b := 64) (pc := 92) 212 dX3_mix_92 (by decide) (by omega) (by omega) (fun _ => ?_) (fun c => absurd c (by omega))
      exact fin f hf
    | succ m ih =>
      intro i hi h16 f hf
      have c1 := hset_self h aw (Ai false 0 64 (f))
      have cD : hset h aw (Ai false 0 64 (f)) D = some (Ob 1 [.ref ab, .ref ao, .long mn, .int at', .ref ah, .ref aw]) := by rw [hset_ne n3]; exact hD
      have ci : (nI i).toNatClampNeg = i := nI_clamp (by omega)
      have b1 : vp_in (nI i) 64 := vp_in_nI (by omega) (by omega)
      have d : ∀ k, k ≤ 16 → nI i - nI k = nI (i - k) := fun k hk => pk_sub (by omega)
      have cc : ∀ k, (nI (i - k)).toNatClampNeg = i - k := fun k => nI_clamp (by omega)
      have bb : ∀ k, vp_in (nI (i - k)) 64 := fun k => vp_in_nI (by omega) (by omega)
      refine X_iload_n (pc := 89) 0 dX3_mix_89 rfl rfl ?_
      refine X_bipush (pc := 90) (x := 64) dX3_mix_90 (by decide) ?_
      refine X_cge (b := 64) (pc := 92) 212 dX3_mix_92 (by decide) (by omega) (by omega) (fun c => absurd c (by omega)) (fun _ => ?_)
      refine X_aload_n (pc := 95) 1 dX3_mix_95 rfl rfl ?_
      refine X_getfield (pc := 96) dX3_mix_96 fg_X3_13_1 cD (by first | rfl | assumption) ?_
      refine X_iload_n (pc := 99) 0 dX3_mix_99 rfl rfl ?_
      refine X_bipush (pc := 100) (x := 15) dX3_mix_100 (by decide) ?_
      refine X_isub (pc := 102) dX3_mix_102 ?_
      rw [show nI i - 15 = nI (i - 15) from d 15 (by decide)]
      refine X_iaload (pc := 103) dX3_mix_103 c1 (bb 15) ?_
      refine X_bipush (pc := 104) (x := 7) dX3_mix_104 (by decide) ?_
      rw [cc 15]
      refine X_isi (pc := 106) _ dX3_mix_106 cs_X3_28 rfl (rot_ok g _ _ _ (by decide)) nJ4_rotateRight (Nat.le_of_ble_eq_true rfl) (Nat.le_of_ble_eq_true rfl) (Nat.le_of_ble_eq_true rfl) (Nat.le_of_ble_eq_true rfl) (fun r1 h1 q1 => ?_)
      obtain ⟨rfl, rfl⟩ := q1
      refine X_aload_n (pc := 109) 1 dX3_mix_109 rfl rfl ?_
      refine X_getfield (pc := 110) dX3_mix_110 fg_X3_13_1 cD (by first | rfl | assumption) ?_
      refine X_iload_n (pc := 113) 0 dX3_mix_113 rfl rfl ?_
      refine X_bipush (pc := 114) (x := 15) dX3_mix_114 (by decide) ?_
      refine X_isub (pc := 116) dX3_mix_116 ?_
      rw [show nI i - 15 = nI (i - 15) from d 15 (by decide)]
      refine X_iaload (pc := 117) dX3_mix_117 c1 (bb 15) ?_
      refine X_bipush (pc := 118) (x := 18) dX3_mix_118 (by decide) ?_
      rw [cc 15]
      refine X_isi (pc := 120) _ dX3_mix_120 cs_X3_28 rfl (rot_ok g _ _ _ (by decide)) nJ4_rotateRight (Nat.le_of_ble_eq_true rfl) (Nat.le_of_ble_eq_true rfl) (Nat.le_of_ble_eq_true rfl) (Nat.le_of_ble_eq_true rfl) (fun r2 h2 q2 => ?_)
      obtain ⟨rfl, rfl⟩ := q2
      refine X_ixor (pc := 123) dX3_mix_123 ?_
      refine X_aload_n (pc := 124) 1 dX3_mix_124 rfl rfl ?_
      refine X_getfield (pc := 125) dX3_mix_125 fg_X3_13_1 cD (by first | rfl | assumption) ?_
      refine X_iload_n (pc := 128) 0 dX3_mix_128 rfl rfl ?_
      refine X_bipush (pc := 129) (x := 15) dX3_mix_129 (by decide) ?_
      refine X_isub (pc := 131) dX3_mix_131 ?_
      rw [show nI i - 15 = nI (i - 15) from d 15 (by decide)]
      refine X_iaload (pc := 132) dX3_mix_132 c1 (bb 15) ?_
      refine X_iconst (pc := 133) (x := 3) dX3_mix_133 (by decide) ?_
      refine X_iushr (pc := 134) dX3_mix_134 ?_
      refine X_ixor (pc := 135) dX3_mix_135 ?_
      refine X_istore_n (pc := 136) (L' := [(2, .int _), (1, .int _), (0, .ref _)]) dX3_mix_136 rfl (Nat.le_of_ble_eq_true rfl) rfl ?_
      refine X_aload_n (pc := 137) 2 dX3_mix_137 rfl rfl ?_
      refine X_getfield (pc := 138) dX3_mix_138 fg_X3_13_1 cD (by first | rfl | assumption) ?_
      refine X_iload_n (pc := 141) 1 dX3_mix_141 rfl rfl ?_
      refine X_iconst (pc := 142) (x := 2) dX3_mix_142 (by decide) ?_
      refine X_isub (pc := 143) dX3_mix_143 ?_
      rw [cc 15]
      rw [show nI i - 2 = nI (i - 2) from d 2 (by decide)]
      refine X_iaload (pc := 144) dX3_mix_144 c1 (bb 2) ?_
      refine X_bipush (pc := 145) (x := 17) dX3_mix_145 (by decide) ?_
      rw [cc 2]
      refine X_isi (pc := 147) _ dX3_mix_147 cs_X3_28 rfl (rot_ok g _ _ _ (by decide)) nJ4_rotateRight (Nat.le_of_ble_eq_true rfl) (Nat.le_of_ble_eq_true rfl) (Nat.le_of_ble_eq_true rfl) (Nat.le_of_ble_eq_true rfl) (fun r3 h3 q3 => ?_)
      obtain ⟨rfl, rfl⟩ := q3
      refine X_aload_n (pc := 150) 2 dX3_mix_150 rfl rfl ?_
      refine X_getfield (pc := 151) dX3_mix_151 fg_X3_13_1 cD (by first | rfl | assumption) ?_
      refine X_iload_n (pc := 154) 1 dX3_mix_154 rfl rfl ?_
      refine X_iconst (pc := 155) (x := 2) dX3_mix_155 (by decide) ?_
      refine X_isub (pc := 156) dX3_mix_156 ?_
      rw [show nI i - 2 = nI (i - 2) from d 2 (by decide)]
      refine X_iaload (pc := 157) dX3_mix_157 c1 (bb 2) ?_
      refine X_bipush (pc := 158) (x := 19) dX3_mix_158 (by decide) ?_
      rw [cc 2]
      refine X_isi (pc := 160) _ dX3_mix_160 cs_X3_28 rfl (rot_ok g _ _ _ (by decide)) nJ4_rotateRight (Nat.le_of_ble_eq_true rfl) (Nat.le_of_ble_eq_true rfl) (Nat.le_of_ble_eq_true rfl) (Nat.le_of_ble_eq_true rfl) (fun r4 h4 q4 => ?_)
      obtain ⟨rfl, rfl⟩ := q4
      refine X_ixor (pc := 163) dX3_mix_163 ?_
      refine X_aload_n (pc := 164) 2 dX3_mix_164 rfl rfl ?_
      refine X_getfield (pc := 165) dX3_mix_165 fg_X3_13_1 cD (by first | rfl | assumption) ?_
      refine X_iload_n (pc := 168) 1 dX3_mix_168 rfl rfl ?_
      refine X_iconst (pc := 169) (x := 2) dX3_mix_169 (by decide) ?_
      refine X_isub (pc := 170) dX3_mix_170 ?_
      rw [show nI i - 2 = nI (i - 2) from d 2 (by decide)]
      refine X_iaload (pc := 171) dX3_mix_171 c1 (bb 2) ?_
      refine X_bipush (pc := 172) (x := 10) dX3_mix_172 (by decide) ?_
      refine X_iushr (pc := 174) dX3_mix_174 ?_
      refine X_ixor (pc := 175) dX3_mix_175 ?_
      refine X_istore_n (pc := 176) (L' := [(3, .int _), (2, .int _), (1, .int _), (0, .ref _)]) dX3_mix_176 rfl (Nat.le_of_ble_eq_true rfl) rfl ?_
      refine X_aload_n (pc := 177) 3 dX3_mix_177 rfl rfl ?_
      refine X_getfield (pc := 178) dX3_mix_178 fg_X3_13_1 cD (by first | rfl | assumption) ?_
      refine X_iload_n (pc := 181) 2 dX3_mix_181 rfl rfl ?_
      refine X_aload_n (pc := 182) 3 dX3_mix_182 rfl rfl ?_
      refine X_getfield (pc := 183) dX3_mix_183 fg_X3_13_1 cD (by first | rfl | assumption) ?_
      refine X_iload_n (pc := 186) 2 dX3_mix_186 rfl rfl ?_
      refine X_bipush (pc := 187) (x := 16) dX3_mix_187 (by decide) ?_
      refine X_isub (pc := 189) dX3_mix_189 ?_
      rw [cc 2]
      rw [show nI i - 16 = nI (i - 16) from d 16 (by decide)]
      refine X_iaload (pc := 190) dX3_mix_190 c1 (bb 16) ?_
      refine X_iload_n (pc := 191) 1 dX3_mix_191 rfl rfl ?_
      refine X_iadd (pc := 192) dX3_mix_192 ?_
      refine X_aload_n (pc := 193) 3 dX3_mix_193 rfl rfl ?_
      refine X_getfield (pc := 194) dX3_mix_194 fg_X3_13_1 cD (by first | rfl | assumption) ?_
      refine X_iload_n (pc := 197) 2 dX3_mix_197 rfl rfl ?_
      refine X_bipush (pc := 198) (x := 7) dX3_mix_198 (by decide) ?_
      refine X_isub (pc := 200) dX3_mix_200 ?_
      rw [cc 16]
      rw [show nI i - 7 = nI (i - 7) from d 7 (by decide)]
      refine X_iaload (pc := 201) dX3_mix_201 c1 (bb 7) ?_
      refine X_iadd (pc := 202) dX3_mix_202 ?_
      refine X_iload_n (pc := 203) 0 dX3_mix_203 rfl rfl ?_
      refine X_iadd (pc := 204) dX3_mix_204 ?_
      rw [cc 7]
      rw [add3 (f (i - 16)) _ (f (i - 7))]
      refine X_iastore (pc := 205) dX3_mix_205 c1 b1 ?_
      refine X_iinc (pc := 206) (L' := [(1, .int (_ + 1)), (3, .int _), (2, .int _), (0, .ref _)]) 2 dX3_mix_206 rfl rfl (Nat.le_of_ble_eq_true rfl) rfl ?_
      refine X_goto (pc := 209) 89 dX3_mix_209 (by decide) ?_
      rw [ci, hset_hset, show nI i + 1 = nI (i + 1) from nI_add i 1]
      refine XX.pick (L' := [(1, .int _), (0, .ref _)]) [0, 3] rfl ?_
      exact ih (i + 1) (by omega) (by omega) _ (hf.snoc (fun c => absurd c (by omega)) (fun _ => rfl))
  refine X_bipush (pc := 86) (x := 16) dX3_mix_86 (by decide) ?_
  refine X_istore_n (pc := 88) (L' := [(1, .int _), (0, .ref _)]) dX3_mix_88 rfl (Nat.le_of_ble_eq_true rfl) rfl ?_
  refine XX.pick (L' := [(1, .int _), (0, .ref _)]) [0, 1] rfl ?_
  exact loop 48 16 (by omega) (by omega) f0 hf0
set_option maxHeartbeats 8000000 in
theorem x3_mix_ok (g : GX) {h : AH} {D ab ao ah aw : Nat} {mn : Int64} {at' : Int32} {fb : Nat → Int32} {fc fw : Nat → Int32} (hD : h D = some (Ob 1 [.ref ab, .ref ao, .long mn, .int at', .ref ah, .ref aw])) (hb : h ab = some (Ai false 2 64 fb)) (hh : h ah = some (Ai false 0 8 (fc))) (hw : h aw = some (Ai false 0 64 (fw))) (n1 : ah ≠ aw) (n2 : ab ≠ aw) :
    MT g MX3_mix ({ frames := 1, cells := 0, slots := 0, locals := 21 } : Room) [.ref D] h (RV fun h' => ∃ f, IsSched fb 0 64 f ∧ h' = hset (hset h aw (Ai false 0 64 (f))) ah (Ai false 0 8 (cmpF (rnds (fun j => t256.getD j 0) f fc 64) fc))) := by
  refine MT.of (by decide) (Nat.le_of_ble_eq_true rfl) ?_
  have n3 : D ≠ aw := ne_of hD hw (fun e => by cases e)
  have n4 : D ≠ ah := ne_of hD hh (fun e => by cases e)
  refine x3_mix_s1 g hD hb hh hw n1 n2 (fun f1 hf1 => x3_mix_s2 g hD hb hh hw n1 hf1 (fun f hf => ?_))
  have cD : hset h aw (Ai false 0 64 (f)) D = some (Ob 1 [.ref ab, .ref ao, .long mn, .int at', .ref ah, .ref aw]) := by rw [hset_ne n3]; exact hD
  have ch : hset h aw (Ai false 0 64 (f)) ah = some (Ai false 0 8 (fc)) := by rw [hset_ne n1]; exact hh
  have cw := hset_self h aw (Ai false 0 64 (f))
  generalize hh1 : hset h aw (Ai false 0 64 (f)) = h1 at *
  refine X_aload_n (pc := 212) 1 dX3_mix_212 rfl rfl ?_
  refine X_getfield (pc := 213) dX3_mix_213 fg_X3_7_1 cD (by first | rfl | assumption) ?_
  refine X_iconst (pc := 216) (x := 0) dX3_mix_216 (by decide) ?_
  refine X_iaload (pc := 217) dX3_mix_217 ch (vp_in_nI (n := 0) (by decide) (by decide)) ?_
  refine X_istore_n (pc := 218) (L' := [(1, .int _), (0, .ref _)]) dX3_mix_218 rfl (Nat.le_of_ble_eq_true rfl) rfl ?_
  refine X_aload_n (pc := 219) 1 dX3_mix_219 rfl rfl ?_
  refine X_getfield (pc := 220) dX3_mix_220 fg_X3_7_1 cD (by first | rfl | assumption) ?_
  refine X_iconst (pc := 223) (x := 1) dX3_mix_223 (by decide) ?_
  refine X_iaload (pc := 224) dX3_mix_224 ch (vp_in_nI (n := 1) (by decide) (by decide)) ?_
  refine X_istore_n (pc := 225) (L' := [(2, .int _), (1, .int _), (0, .ref _)]) dX3_mix_225 rfl (Nat.le_of_ble_eq_true rfl) rfl ?_
  refine X_aload_n (pc := 226) 2 dX3_mix_226 rfl rfl ?_
  refine X_getfield (pc := 227) dX3_mix_227 fg_X3_7_1 cD (by first | rfl | assumption) ?_
  refine X_iconst (pc := 230) (x := 2) dX3_mix_230 (by decide) ?_
  refine X_iaload (pc := 231) dX3_mix_231 ch (vp_in_nI (n := 2) (by decide) (by decide)) ?_
  refine X_istore_n (pc := 232) (L' := [(3, .int _), (2, .int _), (1, .int _), (0, .ref _)]) dX3_mix_232 rfl (Nat.le_of_ble_eq_true rfl) rfl ?_
  refine X_aload_n (pc := 233) 3 dX3_mix_233 rfl rfl ?_
  refine X_getfield (pc := 234) dX3_mix_234 fg_X3_7_1 cD (by first | rfl | assumption) ?_
  refine X_iconst (pc := 237) (x := 3) dX3_mix_237 (by decide) ?_
  refine X_iaload (pc := 238) dX3_mix_238 ch (vp_in_nI (n := 3) (by decide) (by decide)) ?_
  refine X_istore (pc := 239) (L' := [(4, .int _), (3, .int _), (2, .int _), (1, .int _), (0, .ref _)]) dX3_mix_239 (Nat.le_of_ble_eq_true rfl) rfl ?_
  refine X_aload_n (pc := 241) 4 dX3_mix_241 rfl rfl ?_
  refine X_getfield (pc := 242) dX3_mix_242 fg_X3_7_1 cD (by first | rfl | assumption) ?_
  refine X_iconst (pc := 245) (x := 4) dX3_mix_245 (by decide) ?_
  refine X_iaload (pc := 246) dX3_mix_246 ch (vp_in_nI (n := 4) (by decide) (by decide)) ?_
  refine X_istore (pc := 247) (L' := [(5, .int _), (4, .int _), (3, .int _), (2, .int _), (1, .int _), (0, .ref _)]) dX3_mix_247 (Nat.le_of_ble_eq_true rfl) rfl ?_
  refine X_aload_n (pc := 249) 5 dX3_mix_249 rfl rfl ?_
  refine X_getfield (pc := 250) dX3_mix_250 fg_X3_7_1 cD (by first | rfl | assumption) ?_
  refine X_iconst (pc := 253) (x := 5) dX3_mix_253 (by decide) ?_
  refine X_iaload (pc := 254) dX3_mix_254 ch (vp_in_nI (n := 5) (by decide) (by decide)) ?_
  refine X_istore (pc := 255) (L' := [(6, .int _), (5, .int _), (4, .int _), (3, .int _), (2, .int _), (1, .int _), (0, .ref _)]) dX3_mix_255 (Nat.le_of_ble_eq_true rfl) rfl ?_
  refine X_aload_n (pc := 257) 6 dX3_mix_257 rfl rfl ?_
  refine X_getfield (pc := 258) dX3_mix_258 fg_X3_7_1 cD (by first | rfl | assumption) ?_
  refine X_bipush (pc := 261) (x := 6) dX3_mix_261 (by decide) ?_
  refine X_iaload (pc := 263) dX3_mix_263 ch (vp_in_nI (n := 6) (by decide) (by decide)) ?_
  refine X_istore (pc := 264) (L' := [(7, .int _), (6, .int _), (5, .int _), (4, .int _), (3, .int _), (2, .int _), (1, .int _), (0, .ref _)]) dX3_mix_264 (Nat.le_of_ble_eq_true rfl) rfl ?_
  refine X_aload_n (pc := 266) 7 dX3_mix_266 rfl rfl ?_
  refine X_getfield (pc := 267) dX3_mix_267 fg_X3_7_1 cD (by first | rfl | assumption) ?_
  refine X_bipush (pc := 270) (x := 7) dX3_mix_270 (by decide) ?_
  refine X_iaload (pc := 272) dX3_mix_272 ch (vp_in_nI (n := 7) (by decide) (by decide)) ?_
  refine X_istore (pc := 273) (L' := [(8, .int _), (7, .int _), (6, .int _), (5, .int _), (4, .int _), (3, .int _), (2, .int _), (1, .int _), (0, .ref _)]) dX3_mix_273 (Nat.le_of_ble_eq_true rfl) rfl ?_
  refine X_iconst (pc := 275) (x := 0) dX3_mix_275 (by decide) ?_
  refine X_istore (pc := 276) (L' := [(9, .int _), (8, .int _), (7, .int _), (6, .int _), (5, .int _), (4, .int _), (3, .int _), (2, .int _), (1, .int _), (0, .ref _)]) dX3_mix_276 (Nat.le_of_ble_eq_true rfl) rfl ?_
  have loop : ∀ m i, i + m = 64 → XX g MX3_mix ({ frames := 1, cells := 0, slots := 0, locals := 21 } : Room) (RV fun h' => ∃ f, IsSched fb 0 64 f ∧ h' = hset (hset h aw (Ai false 0 64 (f))) ah (Ai false 0 8 (cmpF (rnds (fun j => t256.getD j 0) f fc 64) fc))) 0 0 278 [(9, .int (nI i)), (8, .int (rnds (fun j => t256.getD j 0) f fc i 7)), (7, .int (rnds (fun j => t256.getD j 0) f fc i 6)), (6, .int (rnds (fun j => t256.getD j 0) f fc i 5)), (5, .int (rnds (fun j => t256.getD j 0) f fc i 4)), (4, .int (rnds (fun j => t256.getD j 0) f fc i 3)), (3, .int (rnds (fun j => t256.getD j 0) f fc i 2)), (2, .int (rnds (fun j => t256.getD j 0) f fc i 1)), (1, .int (rnds (fun j => t256.getD j 0) f fc i 0)), (0, .ref D)] [] h1 := by
    intro m
    induction m with
    | zero =>
      intro i hi
      have e : i = 64 := by omega
      subst e
      generalize hs : rnds (fun j => t256.getD j 0) f fc 64 = s at *
      have o : ∀ (u : Nat → Int32) (i j : Nat) (x : Int32), j ≠ i → upd u i x j = u j := fun u i j x e => if_neg e
      refine X_iload (pc := 278) 0 dX3_mix_278 rfl ?_
      refine X_bipush (pc := 280) (x := 64) dX3_mix_280 (by decide) ?_
      refine X_cge (a := 64) (b := 64) (pc := 282) 413 dX3_mix_282 (by decide) (by omega) (by omega) (fun _ => ?_) (fun c => absurd c (by omega))
      obtain ⟨v0, hv0⟩ : ∃ v, v = fc := ⟨_, rfl⟩
      rw [← hv0] at ch
      have k0 : ∀ j, 0 ≤ j → v0 j = fc j := fun j _ => by rw [hv0]
      have m0 : ∀ j, j < 0 → v0 j = fc j + s j := fun j hj => absurd hj (by omega)
      have g0 := cD
      have d0 := ch
      refine X_aload_n (pc := 413) 9 dX3_mix_413 rfl rfl ?_
      refine X_getfield (pc := 414) dX3_mix_414 fg_X3_7_1 g0 (by first | rfl | assumption) ?_
      refine X_iconst (pc := 417) (x := 0) dX3_mix_417 (by decide) ?_
      refine X_dup2_11 (pc := 418) dX3_mix_418 rfl rfl ?_
      refine X_iaload (pc := 419) dX3_mix_419 d0 (vp_in_nI (n := 0) (by decide) (by decide)) ?_
      refine X_iload_n (pc := 420) 8 dX3_mix_420 rfl rfl ?_
      refine X_iadd (pc := 421) dX3_mix_421 ?_
      refine X_iastore (pc := 422) dX3_mix_422 d0 (vp_in_nI (n := 0) (by decide) (by decide)) ?_
      obtain ⟨v1, hv1⟩ : ∃ v, v = upd v0 0 (v0 0 + s 0) := ⟨_, rfl⟩
      have k1 : ∀ j, 1 ≤ j → v1 j = fc j := fun j hj => by rw [hv1, o _ _ _ _ (by omega)]; exact k0 j (by omega)
      have m1 : ∀ j, j < 1 → v1 j = fc j + s j := fun j hj => by
        rw [hv1]
        by_cases e : j = 0
        · rw [e, show upd v0 0 (v0 0 + s 0) 0 = v0 0 + s 0 from if_pos rfl, k0 0 (Nat.le_refl _)]
        · rw [o _ _ _ _ e]; exact m0 j (by omega)
      have g1 : hset h1 ah (Ai false 0 8 (v1)) D = some (Ob 1 [.ref ab, .ref ao, .long mn, .int at', .ref ah, .ref aw]) := by rw [hset_ne n4]; exact cD
      have d1 := hset_self h1 ah (Ai false 0 8 (v1))
      refine XX.eqh (show _ = hset h1 ah (Ai false 0 8 (v1)) by rw [hv1] <;> rfl) ?_
      refine X_aload_n (pc := 423) 9 dX3_mix_423 rfl rfl ?_
      refine X_getfield (pc := 424) dX3_mix_424 fg_X3_7_1 g1 (by first | rfl | assumption) ?_
      refine X_iconst (pc := 427) (x := 1) dX3_mix_427 (by decide) ?_
      refine X_dup2_11 (pc := 428) dX3_mix_428 rfl rfl ?_
      refine X_iaload (pc := 429) dX3_mix_429 d1 (vp_in_nI (n := 1) (by decide) (by decide)) ?_
      refine X_iload_n (pc := 430) 7 dX3_mix_430 rfl rfl ?_
      refine X_iadd (pc := 431) dX3_mix_431 ?_
      refine X_iastore (pc := 432) dX3_mix_432 d1 (vp_in_nI (n := 1) (by decide) (by decide)) ?_
      obtain ⟨v2, hv2⟩ : ∃ v, v = upd v1 1 (v1 1 + s 1) := ⟨_, rfl⟩
      have k2 : ∀ j, 2 ≤ j → v2 j = fc j := fun j hj => by rw [hv2, o _ _ _ _ (by omega)]; exact k1 j (by omega)
      have m2 : ∀ j, j < 2 → v2 j = fc j + s j := fun j hj => by
        rw [hv2]
        by_cases e : j = 1
        · rw [e, show upd v1 1 (v1 1 + s 1) 1 = v1 1 + s 1 from if_pos rfl, k1 1 (Nat.le_refl _)]
        · rw [o _ _ _ _ e]; exact m1 j (by omega)
      have g2 : hset h1 ah (Ai false 0 8 (v2)) D = some (Ob 1 [.ref ab, .ref ao, .long mn, .int at', .ref ah, .ref aw]) := by rw [hset_ne n4]; exact cD
      have d2 := hset_self h1 ah (Ai false 0 8 (v2))
      refine XX.eqh (show _ = hset h1 ah (Ai false 0 8 (v2)) by rw [hset_hset, hv2] <;> rfl) ?_
      refine X_aload_n (pc := 433) 9 dX3_mix_433 rfl rfl ?_
      refine X_getfield (pc := 434) dX3_mix_434 fg_X3_7_1 g2 (by first | rfl | assumption) ?_
      refine X_iconst (pc := 437) (x := 2) dX3_mix_437 (by decide) ?_
      refine X_dup2_11 (pc := 438) dX3_mix_438 rfl rfl ?_
      refine X_iaload (pc := 439) dX3_mix_439 d2 (vp_in_nI (n := 2) (by decide) (by decide)) ?_
      refine X_iload_n (pc := 440) 6 dX3_mix_440 rfl rfl ?_
      refine X_iadd (pc := 441) dX3_mix_441 ?_
      refine X_iastore (pc := 442) dX3_mix_442 d2 (vp_in_nI (n := 2) (by decide) (by decide)) ?_
      obtain ⟨v3, hv3⟩ : ∃ v, v = upd v2 2 (v2 2 + s 2) := ⟨_, rfl⟩
      have k3 : ∀ j, 3 ≤ j → v3 j = fc j := fun j hj => by rw [hv3, o _ _ _ _ (by omega)]; exact k2 j (by omega)
      have m3 : ∀ j, j < 3 → v3 j = fc j + s j := fun j hj => by
        rw [hv3]
        by_cases e : j = 2
        · rw [e, show upd v2 2 (v2 2 + s 2) 2 = v2 2 + s 2 from if_pos rfl, k2 2 (Nat.le_refl _)]
        · rw [o _ _ _ _ e]; exact m2 j (by omega)
      have g3 : hset h1 ah (Ai false 0 8 (v3)) D = some (Ob 1 [.ref ab, .ref ao, .long mn, .int at', .ref ah, .ref aw]) := by rw [hset_ne n4]; exact cD
      have d3 := hset_self h1 ah (Ai false 0 8 (v3))
      refine XX.eqh (show _ = hset h1 ah (Ai false 0 8 (v3)) by rw [hset_hset, hv3] <;> rfl) ?_
      refine X_aload_n (pc := 443) 9 dX3_mix_443 rfl rfl ?_
      refine X_getfield (pc := 444) dX3_mix_444 fg_X3_7_1 g3 (by first | rfl | assumption) ?_
      refine X_iconst (pc := 447) (x := 3) dX3_mix_447 (by decide) ?_
      refine X_dup2_11 (pc := 448) dX3_mix_448 rfl rfl ?_
      refine X_iaload (pc := 449) dX3_mix_449 d3 (vp_in_nI (n := 3) (by decide) (by decide)) ?_
      refine X_iload (pc := 450) 5 dX3_mix_450 rfl ?_
      refine X_iadd (pc := 452) dX3_mix_452 ?_
      refine X_iastore (pc := 453) dX3_mix_453 d3 (vp_in_nI (n := 3) (by decide) (by decide)) ?_
      obtain ⟨v4, hv4⟩ : ∃ v, v = upd v3 3 (v3 3 + s 3) := ⟨_, rfl⟩
      have k4 : ∀ j, 4 ≤ j → v4 j = fc j := fun j hj => by rw [hv4, o _ _ _ _ (by omega)]; exact k3 j (by omega)
      have m4 : ∀ j, j < 4 → v4 j = fc j + s j := fun j hj => by
        rw [hv4]
        by_cases e : j = 3
        · rw [e, show upd v3 3 (v3 3 + s 3) 3 = v3 3 + s 3 from if_pos rfl, k3 3 (Nat.le_refl _)]
        · rw [o _ _ _ _ e]; exact m3 j (by omega)
      have g4 : hset h1 ah (Ai false 0 8 (v4)) D = some (Ob 1 [.ref ab, .ref ao, .long mn, .int at', .ref ah, .ref aw]) := by rw [hset_ne n4]; exact cD
      have d4 := hset_self h1 ah (Ai false 0 8 (v4))
      refine XX.eqh (show _ = hset h1 ah (Ai false 0 8 (v4)) by rw [hset_hset, hv4] <;> rfl) ?_
      refine X_aload_n (pc := 454) 9 dX3_mix_454 rfl rfl ?_
      refine X_getfield (pc := 455) dX3_mix_455 fg_X3_7_1 g4 (by first | rfl | assumption) ?_
      refine X_iconst (pc := 458) (x := 4) dX3_mix_458 (by decide) ?_
      refine X_dup2_11 (pc := 459) dX3_mix_459 rfl rfl ?_
      refine X_iaload (pc := 460) dX3_mix_460 d4 (vp_in_nI (n := 4) (by decide) (by decide)) ?_
      refine X_iload (pc := 461) 4 dX3_mix_461 rfl ?_
      refine X_iadd (pc := 463) dX3_mix_463 ?_
      refine X_iastore (pc := 464) dX3_mix_464 d4 (vp_in_nI (n := 4) (by decide) (by decide)) ?_
      obtain ⟨v5, hv5⟩ : ∃ v, v = upd v4 4 (v4 4 + s 4) := ⟨_, rfl⟩
      have k5 : ∀ j, 5 ≤ j → v5 j = fc j := fun j hj => by rw [hv5, o _ _ _ _ (by omega)]; exact k4 j (by omega)
      have m5 : ∀ j, j < 5 → v5 j = fc j + s j := fun j hj => by
        rw [hv5]
        by_cases e : j = 4
        · rw [e, show upd v4 4 (v4 4 + s 4) 4 = v4 4 + s 4 from if_pos rfl, k4 4 (Nat.le_refl _)]
        · rw [o _ _ _ _ e]; exact m4 j (by omega)
      have g5 : hset h1 ah (Ai false 0 8 (v5)) D = some (Ob 1 [.ref ab, .ref ao, .long mn, .int at', .ref ah, .ref aw]) := by rw [hset_ne n4]; exact cD
      have d5 := hset_self h1 ah (Ai false 0 8 (v5))
      refine XX.eqh (show _ = hset h1 ah (Ai false 0 8 (v5)) by rw [hset_hset, hv5] <;> rfl) ?_
      refine X_aload_n (pc := 465) 9 dX3_mix_465 rfl rfl ?_
      refine X_getfield (pc := 466) dX3_mix_466 fg_X3_7_1 g5 (by first | rfl | assumption) ?_
      refine X_iconst (pc := 469) (x := 5) dX3_mix_469 (by decide) ?_
      refine X_dup2_11 (pc := 470) dX3_mix_470 rfl rfl ?_
      refine X_iaload (pc := 471) dX3_mix_471 d5 (vp_in_nI (n := 5) (by decide) (by decide)) ?_
      refine X_iload (pc := 472) 3 dX3_mix_472 rfl ?_
      refine X_iadd (pc := 474) dX3_mix_474 ?_
      refine X_iastore (pc := 475) dX3_mix_475 d5 (vp_in_nI (n := 5) (by decide) (by decide)) ?_
      obtain ⟨v6, hv6⟩ : ∃ v, v = upd v5 5 (v5 5 + s 5) := ⟨_, rfl⟩
      have k6 : ∀ j, 6 ≤ j → v6 j = fc j := fun j hj => by rw [hv6, o _ _ _ _ (by omega)]; exact k5 j (by omega)
      have m6 : ∀ j, j < 6 → v6 j = fc j + s j := fun j hj => by
        rw [hv6]
        by_cases e : j = 5
        · rw [e, show upd v5 5 (v5 5 + s 5) 5 = v5 5 + s 5 from if_pos rfl, k5 5 (Nat.le_refl _)]
        · rw [o _ _ _ _ e]; exact m5 j (by omega)
      have g6 : hset h1 ah (Ai false 0 8 (v6)) D = some (Ob 1 [.ref ab, .ref ao, .long mn, .int at', .ref ah, .ref aw]) := by rw [hset_ne n4]; exact cD
      have d6 := hset_self h1 ah (Ai false 0 8 (v6))
      refine XX.eqh (show _ = hset h1 ah (Ai false 0 8 (v6)) by rw [hset_hset, hv6] <;> rfl) ?_
      refine X_aload_n (pc := 476) 9 dX3_mix_476 rfl rfl ?_
      refine X_getfield (pc := 477) dX3_mix_477 fg_X3_7_1 g6 (by first | rfl | assumption) ?_
      refine X_bipush (pc := 480) (x := 6) dX3_mix_480 (by decide) ?_
      refine X_dup2_11 (pc := 482) dX3_mix_482 rfl rfl ?_
      refine X_iaload (pc := 483) dX3_mix_483 d6 (vp_in_nI (n := 6) (by decide) (by decide)) ?_
      refine X_iload (pc := 484) 2 dX3_mix_484 rfl ?_
      refine X_iadd (pc := 486) dX3_mix_486 ?_
      refine X_iastore (pc := 487) dX3_mix_487 d6 (vp_in_nI (n := 6) (by decide) (by decide)) ?_
      obtain ⟨v7, hv7⟩ : ∃ v, v = upd v6 6 (v6 6 + s 6) := ⟨_, rfl⟩
      have k7 : ∀ j, 7 ≤ j → v7 j = fc j := fun j hj => by rw [hv7, o _ _ _ _ (by omega)]; exact k6 j (by omega)
      have m7 : ∀ j, j < 7 → v7 j = fc j + s j := fun j hj => by
        rw [hv7]
        by_cases e : j = 6
        · rw [e, show upd v6 6 (v6 6 + s 6) 6 = v6 6 + s 6 from if_pos rfl, k6 6 (Nat.le_refl _)]
        · rw [o _ _ _ _ e]; exact m6 j (by omega)
      have g7 : hset h1 ah (Ai false 0 8 (v7)) D = some (Ob 1 [.ref ab, .ref ao, .long mn, .int at', .ref ah, .ref aw]) := by rw [hset_ne n4]; exact cD
      have d7 := hset_self h1 ah (Ai false 0 8 (v7))
      refine XX.eqh (show _ = hset h1 ah (Ai false 0 8 (v7)) by rw [hset_hset, hv7] <;> rfl) ?_
      refine X_aload_n (pc := 488) 9 dX3_mix_488 rfl rfl ?_
      refine X_getfield (pc := 489) dX3_mix_489 fg_X3_7_1 g7 (by first | rfl | assumption) ?_
      refine X_bipush (pc := 492) (x := 7) dX3_mix_492 (by decide) ?_
      refine X_dup2_11 (pc := 494) dX3_mix_494 rfl rfl ?_
      refine X_iaload (pc := 495) dX3_mix_495 d7 (vp_in_nI (n := 7) (by decide) (by decide)) ?_
      refine X_iload (pc := 496) 1 dX3_mix_496 rfl ?_
      refine X_iadd (pc := 498) dX3_mix_498 ?_
      refine X_iastore (pc := 499) dX3_mix_499 d7 (vp_in_nI (n := 7) (by decide) (by decide)) ?_
      obtain ⟨v8, hv8⟩ : ∃ v, v = upd v7 7 (v7 7 + s 7) := ⟨_, rfl⟩
      have k8 : ∀ j, 8 ≤ j → v8 j = fc j := fun j hj => by rw [hv8, o _ _ _ _ (by omega)]; exact k7 j (by omega)
      have m8 : ∀ j, j < 8 → v8 j = fc j + s j := fun j hj => by
        rw [hv8]
        by_cases e : j = 7
        · rw [e, show upd v7 7 (v7 7 + s 7) 7 = v7 7 + s 7 from if_pos rfl, k7 7 (Nat.le_refl _)]
        · rw [o _ _ _ _ e]; exact m7 j (by omega)
      have g8 : hset h1 ah (Ai false 0 8 (v8)) D = some (Ob 1 [.ref ab, .ref ao, .long mn, .int at', .ref ah, .ref aw]) := by rw [hset_ne n4]; exact cD
      have d8 := hset_self h1 ah (Ai false 0 8 (v8))
      refine XX.eqh (show _ = hset h1 ah (Ai false 0 8 (v8)) by rw [hset_hset, hv8] <;> rfl) ?_
      refine X_return (pc := 500) dX3_mix_500 rfl (Nat.le_of_ble_eq_true rfl) (Nat.le_of_ble_eq_true rfl) ?_
      refine ⟨rfl, f, hf, ?_⟩
      have ev : v8 = cmpF s fc := by
        funext j
        unfold cmpF
        by_cases e : j < 8
        · rw [if_pos e]; exact m8 j e
        · rw [if_neg e]; exact k8 j (by omega)
      rw [hh1, hs, ev]
    | succ m ih =>
      intro i hi
      have ci : (nI i).toNatClampNeg = i := nI_clamp (by omega)
      have b1 : vp_in (nI i) 64 := vp_in_nI (by omega) (by omega)
      have ih := ih (i + 1) (by omega)
      generalize hs : rnds (fun j => t256.getD j 0) f fc i = s at *
      have hs1 : rnds (fun j => t256.getD j 0) f fc (i + 1) = rnd s (t256.getD i 0) (f i) := by rw [← hs]; rfl
      rw [hs1] at ih
      refine X_iload (pc := 278) 0 dX3_mix_278 rfl ?_
      refine X_bipush (pc := 280) (x := 64) dX3_mix_280 (by decide) ?_
      refine X_cge (b := 64) (pc := 282) 413 dX3_mix_282 (by decide) (by omega) (by omega) (fun c => absurd c (by omega)) (fun _ => ?_)
      refine X_iload (pc := 285) 1 dX3_mix_285 rfl ?_
      refine X_iload (pc := 287) 4 dX3_mix_287 rfl ?_
      refine X_bipush (pc := 289) (x := 6) dX3_mix_289 (by decide) ?_
      refine X_isi (pc := 291) _ dX3_mix_291 cs_X3_28 rfl (rot_ok g _ _ _ (by decide)) nJ4_rotateRight (Nat.le_of_ble_eq_true rfl) (Nat.le_of_ble_eq_true rfl) (Nat.le_of_ble_eq_true rfl) (Nat.le_of_ble_eq_true rfl) (fun r1 h2 q1 => ?_)
      obtain ⟨rfl, rfl⟩ := q1
      refine X_iload (pc := 294) 4 dX3_mix_294 rfl ?_
      refine X_bipush (pc := 296) (x := 11) dX3_mix_296 (by decide) ?_
      refine X_isi (pc := 298) _ dX3_mix_298 cs_X3_28 rfl (rot_ok g _ _ _ (by decide)) nJ4_rotateRight (Nat.le_of_ble_eq_true rfl) (Nat.le_of_ble_eq_true rfl) (Nat.le_of_ble_eq_true rfl) (Nat.le_of_ble_eq_true rfl) (fun r1 h2 q1 => ?_)
      obtain ⟨rfl, rfl⟩ := q1
      refine X_ixor (pc := 301) dX3_mix_301 ?_
      refine X_iload (pc := 302) 4 dX3_mix_302 rfl ?_
      refine X_bipush (pc := 304) (x := 25) dX3_mix_304 (by decide) ?_
      refine X_isi (pc := 306) _ dX3_mix_306 cs_X3_28 rfl (rot_ok g _ _ _ (by decide)) nJ4_rotateRight (Nat.le_of_ble_eq_true rfl) (Nat.le_of_ble_eq_true rfl) (Nat.le_of_ble_eq_true rfl) (Nat.le_of_ble_eq_true rfl) (fun r1 h2 q1 => ?_)
      obtain ⟨rfl, rfl⟩ := q1
      refine X_ixor (pc := 309) dX3_mix_309 ?_
      refine X_iadd (pc := 310) dX3_mix_310 ?_
      refine X_iload (pc := 311) 4 dX3_mix_311 rfl ?_
      refine X_iload (pc := 313) 3 dX3_mix_313 rfl ?_
      refine X_iand (pc := 315) dX3_mix_315 ?_
      refine X_iload (pc := 316) 4 dX3_mix_316 rfl ?_
      refine X_iconst (pc := 318) (x := (-1)) dX3_mix_318 (by decide) ?_
      refine X_ixor (pc := 319) dX3_mix_319 ?_
      refine X_iload (pc := 320) 2 dX3_mix_320 rfl ?_
      refine X_iand (pc := 322) dX3_mix_322 ?_
      refine X_ixor (pc := 323) dX3_mix_323 ?_
      refine X_iadd (pc := 324) dX3_mix_324 ?_
      refine X_getstatic (pc := 325) (j := 0) dX3_mix_325 q870 (fun _ => rfl) rfl (fun st_325 hs_325 => ?_)
      refine X_iload (pc := 328) 0 dX3_mix_328 rfl ?_
      refine X_iaload (pc := 330) dX3_mix_330 hs_325 b1 ?_
      refine X_iadd (pc := 331) dX3_mix_331 ?_
      refine X_aload_n (pc := 332) 9 dX3_mix_332 rfl rfl ?_
      refine X_getfield (pc := 333) dX3_mix_333 fg_X3_13_1 cD (by first | rfl | assumption) ?_
      refine X_iload (pc := 336) 0 dX3_mix_336 rfl ?_
      refine X_iaload (pc := 338) dX3_mix_338 cw b1 ?_
      refine X_iadd (pc := 339) dX3_mix_339 ?_
      refine X_istore (pc := 340) (L' := [(10, .int _), (9, .int _), (8, .int _), (7, .int _), (6, .int _), (5, .int _), (4, .int _), (3, .int _), (2, .int _), (1, .int _), (0, .ref _)]) dX3_mix_340 (Nat.le_of_ble_eq_true rfl) rfl ?_
      refine X_iload_n (pc := 342) 9 dX3_mix_342 rfl rfl ?_
      refine X_iconst (pc := 343) (x := 2) dX3_mix_343 (by decide) ?_
      refine X_isi (pc := 344) _ dX3_mix_344 cs_X3_28 rfl (rot_ok g _ _ _ (by decide)) nJ4_rotateRight (Nat.le_of_ble_eq_true rfl) (Nat.le_of_ble_eq_true rfl) (Nat.le_of_ble_eq_true rfl) (Nat.le_of_ble_eq_true rfl) (fun r1 h2 q1 => ?_)
      obtain ⟨rfl, rfl⟩ := q1
      refine X_iload_n (pc := 347) 9 dX3_mix_347 rfl rfl ?_
      refine X_bipush (pc := 348) (x := 13) dX3_mix_348 (by decide) ?_
      refine X_isi (pc := 350) _ dX3_mix_350 cs_X3_28 rfl (rot_ok g _ _ _ (by decide)) nJ4_rotateRight (Nat.le_of_ble_eq_true rfl) (Nat.le_of_ble_eq_true rfl) (Nat.le_of_ble_eq_true rfl) (Nat.le_of_ble_eq_true rfl) (fun r1 h2 q1 => ?_)
      obtain ⟨rfl, rfl⟩ := q1
      refine X_ixor (pc := 353) dX3_mix_353 ?_
      refine X_iload_n (pc := 354) 9 dX3_mix_354 rfl rfl ?_
      refine X_bipush (pc := 355) (x := 22) dX3_mix_355 (by decide) ?_
      refine X_isi (pc := 357) _ dX3_mix_357 cs_X3_28 rfl (rot_ok g _ _ _ (by decide)) nJ4_rotateRight (Nat.le_of_ble_eq_true rfl) (Nat.le_of_ble_eq_true rfl) (Nat.le_of_ble_eq_true rfl) (Nat.le_of_ble_eq_true rfl) (fun r1 h2 q1 => ?_)
      obtain ⟨rfl, rfl⟩ := q1
      refine X_ixor (pc := 360) dX3_mix_360 ?_
      refine X_iload_n (pc := 361) 9 dX3_mix_361 rfl rfl ?_
      refine X_iload_n (pc := 362) 8 dX3_mix_362 rfl rfl ?_
      refine X_iand (pc := 363) dX3_mix_363 ?_
      refine X_iload_n (pc := 364) 9 dX3_mix_364 rfl rfl ?_
      refine X_iload_n (pc := 365) 7 dX3_mix_365 rfl rfl ?_
      refine X_iand (pc := 366) dX3_mix_366 ?_
      refine X_ixor (pc := 367) dX3_mix_367 ?_
      refine X_iload_n (pc := 368) 8 dX3_mix_368 rfl rfl ?_
      refine X_iload_n (pc := 369) 7 dX3_mix_369 rfl rfl ?_
      refine X_iand (pc := 370) dX3_mix_370 ?_
      refine X_ixor (pc := 371) dX3_mix_371 ?_
      refine X_iadd (pc := 372) dX3_mix_372 ?_
      refine X_istore (pc := 373) (L' := [(11, .int _), (10, .int _), (9, .int _), (8, .int _), (7, .int _), (6, .int _), (5, .int _), (4, .int _), (3, .int _), (2, .int _), (1, .int _), (0, .ref _)]) dX3_mix_373 (Nat.le_of_ble_eq_true rfl) rfl ?_
      refine X_iload (pc := 375) 4 dX3_mix_375 rfl ?_
      refine X_istore (pc := 377) (L' := [(8, .int _), (11, .int _), (10, .int _), (9, .int _), (7, .int _), (6, .int _), (5, .int _), (4, .int _), (3, .int _), (2, .int _), (1, .int _), (0, .ref _)]) dX3_mix_377 (Nat.le_of_ble_eq_true rfl) rfl ?_
      refine X_iload (pc := 379) 5 dX3_mix_379 rfl ?_
      refine X_istore (pc := 381) (L' := [(7, .int _), (8, .int _), (11, .int _), (10, .int _), (9, .int _), (6, .int _), (5, .int _), (4, .int _), (3, .int _), (2, .int _), (1, .int _), (0, .ref _)]) dX3_mix_381 (Nat.le_of_ble_eq_true rfl) rfl ?_
      refine X_iload (pc := 383) 6 dX3_mix_383 rfl ?_
      refine X_istore (pc := 385) (L' := [(6, .int _), (7, .int _), (8, .int _), (11, .int _), (10, .int _), (9, .int _), (5, .int _), (4, .int _), (3, .int _), (2, .int _), (1, .int _), (0, .ref _)]) dX3_mix_385 (Nat.le_of_ble_eq_true rfl) rfl ?_
      refine X_iload (pc := 387) 7 dX3_mix_387 rfl ?_
      refine X_iload (pc := 389) 4 dX3_mix_389 rfl ?_
      refine X_iadd (pc := 391) dX3_mix_391 ?_
      refine X_istore (pc := 392) (L' := [(5, .int _), (6, .int _), (7, .int _), (8, .int _), (11, .int _), (10, .int _), (9, .int _), (4, .int _), (3, .int _), (2, .int _), (1, .int _), (0, .ref _)]) dX3_mix_392 (Nat.le_of_ble_eq_true rfl) rfl ?_
      refine X_iload_n (pc := 394) 8 dX3_mix_394 rfl rfl ?_
      refine X_istore (pc := 395) (L' := [(4, .int _), (5, .int _), (6, .int _), (7, .int _), (8, .int _), (11, .int _), (10, .int _), (9, .int _), (3, .int _), (2, .int _), (1, .int _), (0, .ref _)]) dX3_mix_395 (Nat.le_of_ble_eq_true rfl) rfl ?_
      refine X_iload_n (pc := 397) 9 dX3_mix_397 rfl rfl ?_
      refine X_istore_n (pc := 398) (L' := [(3, .int _), (4, .int _), (5, .int _), (6, .int _), (7, .int _), (8, .int _), (11, .int _), (10, .int _), (9, .int _), (2, .int _), (1, .int _), (0, .ref _)]) dX3_mix_398 rfl (Nat.le_of_ble_eq_true rfl) rfl ?_
      refine X_iload_n (pc := 399) 10 dX3_mix_399 rfl rfl ?_
      refine X_istore_n (pc := 400) (L' := [(2, .int _), (3, .int _), (4, .int _), (5, .int _), (6, .int _), (7, .int _), (8, .int _), (11, .int _), (10, .int _), (9, .int _), (1, .int _), (0, .ref _)]) dX3_mix_400 rfl (Nat.le_of_ble_eq_true rfl) rfl ?_
      refine X_iload (pc := 401) 8 dX3_mix_401 rfl ?_
      refine X_iload (pc := 403) 7 dX3_mix_403 rfl ?_
      refine X_iadd (pc := 405) dX3_mix_405 ?_
      refine X_istore_n (pc := 406) (L' := [(1, .int _), (2, .int _), (3, .int _), (4, .int _), (5, .int _), (6, .int _), (7, .int _), (8, .int _), (11, .int _), (10, .int _), (9, .int _), (0, .ref _)]) dX3_mix_406 rfl (Nat.le_of_ble_eq_true rfl) rfl ?_
      refine X_iinc (pc := 407) (L' := [(9, .int (_ + 1)), (1, .int _), (2, .int _), (3, .int _), (4, .int _), (5, .int _), (6, .int _), (7, .int _), (8, .int _), (11, .int _), (10, .int _), (0, .ref _)]) 10 dX3_mix_407 rfl rfl (Nat.le_of_ble_eq_true rfl) rfl ?_
      refine X_goto (pc := 410) 278 dX3_mix_410 (by decide) ?_
      rw [ci, show nI i + 1 = nI (i + 1) from nI_add i 1]
      refine XX.pick (L' := [(9, .int _), (8, .int _), (7, .int _), (6, .int _), (5, .int _), (4, .int _), (3, .int _), (2, .int _), (1, .int _), (0, .ref _)]) [0, 8, 7, 6, 5, 4, 3, 2, 1, 11] rfl ?_
      exact ih
  exact loop 64 0 (by omega)
