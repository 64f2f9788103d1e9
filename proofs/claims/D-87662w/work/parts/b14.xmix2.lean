set_option maxRecDepth 100000
/-! VeilMint's long digest: its compression -/
theorem add3L (a s b : Int64) : a + s + b = a + b + s := by rw [Int64.add_assoc, Int64.add_comm s b, ← Int64.add_assoc]
set_option maxHeartbeats 4000000 in
theorem x4_mix_s1 (g : GX) {h : AH} {D ab ao ah aw : Nat} {mn : Int64} {at' : Int32} {fb : Nat → Int32} {fc fw : Nat → Int64} (hD : h D = some (Ob 2 [.ref ab, .ref ao, .long mn, .int at', .ref ah, .ref aw])) (hb : h ab = some (Ai false 2 128 fb)) (hh : h ah = some (Al false 8 (fc))) (hw : h aw = some (Al false 80 (fw))) (n1 : ah ≠ aw) {Post : Outcome → AH → Prop} (n2 : ab ≠ aw)
    (fin : ∀ f, IsWide fb 0 16 f → XX g MX4_mix ({ frames := 1, cells := 0, slots := 0, locals := 22 } : Room) Post 0 0 62 [(1, .int (nI 16)), (0, .ref D)] [] (hset h aw (Al false 80 (f)))) :
    XX g MX4_mix ({ frames := 1, cells := 0, slots := 0, locals := 22 } : Room) Post 0 0 0 [(0, .ref D)] [] h := by
  have n3 : D ≠ aw := ne_of hD hw (fun e => by cases e)
  have loop : ∀ m i, i + m = 16 → ∀ f : Nat → Int64, IsWide fb 0 i f → XX g MX4_mix ({ frames := 1, cells := 0, slots := 0, locals := 22 } : Room) Post 0 0 2 [(1, .int (nI i)), (0, .ref D)] [] (hset h aw (Al false 80 (f))) := by
    intro m
    induction m with
    | zero =>
      intro i hi f hf
      have e : i = 16 := by omega
      subst e
      refine X_iload_n (pc := 2) 0 dX4_mix_2 rfl rfl ?_
      refine X_bipush (pc := 3) (x := 16) dX4_mix_3 (by decide) ?_
      refine X_cge (a := 16) (b := 16) (pc := 5) 62 dX4_mix_5 (by decide) (by omega) (by omega) (fun _ => ?_) (fun c => absurd c (by omega))
      exact fin f hf
    | succ m ih =>
      intro i hi f hf
      have c1 := hset_self h aw (Al false 80 (f))
      have cD : hset h aw (Al false 80 (f)) D = some (Ob 2 [.ref ab, .ref ao, .long mn, .int at', .ref ah, .ref aw]) := by rw [hset_ne n3]; exact hD
      have cb : hset h aw (Al false 80 (f)) ab = some (Ai false 2 128 fb) := by rw [hset_ne n2]; exact hb
      have ci : (nI i).toNatClampNeg = i := nI_clamp (by omega)
      have b1 : vp_in (nI i) 80 := vp_in_nI (by omega) (by omega)
      have inner : ∀ m j, j + m = 8 → XX g MX4_mix ({ frames := 1, cells := 0, slots := 0, locals := 22 } : Room) Post 0 0 13 [(4, .int (nI j)), (2, .long (wwP fb 0 i j)), (1, .int (nI i)), (0, .ref D)] [] (hset h aw (Al false 80 (f))) := by
        intro m
        induction m with
        | zero =>
          intro j hj
          have e : j = 8 := by omega
          subst e
          refine X_iload (pc := 13) 0 dX4_mix_13 rfl ?_
          refine X_bipush (pc := 15) (x := 8) dX4_mix_15 (by decide) ?_
          refine X_cge (a := 8) (b := 8) (pc := 17) 49 dX4_mix_17 (by decide) (by omega) (by omega) (fun _ => ?_) (fun c => absurd c (by omega))
          refine X_aload_n (pc := 49) 3 dX4_mix_49 rfl rfl ?_
          refine X_getfield (pc := 50) dX4_mix_50 fg_X4_13_2 cD (by first | rfl | assumption) ?_
          refine X_iload_n (pc := 53) 2 dX4_mix_53 rfl rfl ?_
          refine X_lload_n (pc := 54) 1 dX4_mix_54 rfl rfl ?_
          refine X_lastore (pc := 55) dX4_mix_55 c1 b1 ?_
          refine X_iinc (pc := 56) (L' := [(1, .int (_ + 1)), (4, .int _), (2, .long _), (0, .ref _)]) 2 dX4_mix_56 rfl rfl (Nat.le_of_ble_eq_true rfl) rfl ?_
          refine X_goto (pc := 59) 2 dX4_mix_59 (by decide) ?_
          rw [ci, hset_hset, show nI i + 1 = nI (i + 1) from nI_add i 1]
          refine XX.pick (L' := [(1, .int _), (0, .ref _)]) [0, 3] rfl ?_
          exact ih (i + 1) (by omega) _ (hf.snoc (fun _ => rfl) (fun c => absurd c (by omega)))
        | succ m ih2 =>
          intro j hj
          have bx : vp_in (nI (8 * i + j)) 128 := vp_in_nI (by omega) (by omega)
          have cx : (nI (8 * i + j)).toNatClampNeg = 0 + 8 * i + j := by rw [Nat.zero_add]; exact nI_clamp (by omega)
          refine X_iload (pc := 13) 0 dX4_mix_13 rfl ?_
          refine X_bipush (pc := 15) (x := 8) dX4_mix_15 (by decide) ?_
          refine X_cge (b := 8) (pc := 17) 49 dX4_mix_17 (by decide) (by omega) (by omega) (fun c => absurd c (by omega)) (fun _ => ?_)
          refine X_lload_n (pc := 20) 1 dX4_mix_20 rfl rfl ?_
          refine X_bipush (pc := 21) (x := 8) dX4_mix_21 (by decide) ?_
          refine X_lshl (pc := 23) dX4_mix_23 ?_
          refine X_aload_n (pc := 24) 3 dX4_mix_24 rfl rfl ?_
          refine X_getfield (pc := 25) dX4_mix_25 fg_X4_25_2 cD (by first | rfl | assumption) ?_
          refine X_bipush (pc := 28) (x := 8) dX4_mix_28 (by decide) ?_
          refine X_iload_n (pc := 30) 2 dX4_mix_30 rfl rfl ?_
          refine X_imul (pc := 31) dX4_mix_31 ?_
          refine X_iload (pc := 32) 0 dX4_mix_32 rfl ?_
          refine X_iadd (pc := 34) dX4_mix_34 ?_
          rw [show (8 : Int32) * nI i = nI (8 * i) from pk_mul 8 i, nI_add]
          refine X_baload (pc := 35) dX4_mix_35 cb bx ?_
          refine X_sipush (pc := 36) (x := 255) dX4_mix_36 (by decide) ?_
          refine X_iand (pc := 39) dX4_mix_39 ?_
          refine X_i2l (pc := 40) dX4_mix_40 ?_
          refine X_lor (pc := 41) dX4_mix_41 ?_
          refine X_lstore_n (pc := 42) (L' := [(2, .long _), (4, .int _), (1, .int _), (0, .ref _)]) dX4_mix_42 rfl (Nat.le_of_ble_eq_true rfl) rfl ?_
          refine X_iinc (pc := 43) (L' := [(4, .int (_ + 1)), (2, .long _), (1, .int _), (0, .ref _)]) 1 dX4_mix_43 rfl rfl (Nat.le_of_ble_eq_true rfl) rfl ?_
          refine X_goto (pc := 46) 13 dX4_mix_46 (by decide) ?_
          rw [cx, show nI j + 1 = nI (j + 1) from nI_add j 1]
          exact ih2 (j + 1) (by omega)
      refine X_iload_n (pc := 2) 0 dX4_mix_2 rfl rfl ?_
      refine X_bipush (pc := 3) (x := 16) dX4_mix_3 (by decide) ?_
      refine X_cge (b := 16) (pc := 5) 62 dX4_mix_5 (by decide) (by omega) (by omega) (fun c => absurd c (by omega)) (fun _ => ?_)
      refine X_lconst (pc := 8) (x := 0) dX4_mix_8 (by decide) ?_
      refine X_lstore_n (pc := 9) (L' := [(2, .long _), (1, .int _), (0, .ref _)]) dX4_mix_9 rfl (Nat.le_of_ble_eq_true rfl) rfl ?_
      refine X_iconst (pc := 10) (x := 0) dX4_mix_10 (by decide) ?_
      refine X_istore (pc := 11) (L' := [(4, .int _), (2, .long _), (1, .int _), (0, .ref _)]) dX4_mix_11 (Nat.le_of_ble_eq_true rfl) rfl ?_
      exact inner 8 0 (by omega)
  refine X_iconst (pc := 0) (x := 0) dX4_mix_0 (by decide) ?_
  refine X_istore_n (pc := 1) (L' := [(1, .int _), (0, .ref _)]) dX4_mix_1 rfl (Nat.le_of_ble_eq_true rfl) rfl ?_
  have := loop 16 0 (by omega) fw (fun i hi => absurd hi (by omega))
  rw [hset_same hw] at this
  exact this
set_option maxHeartbeats 4000000 in
theorem x4_mix_s2 (g : GX) {h : AH} {D ab ao ah aw : Nat} {mn : Int64} {at' : Int32} {fb : Nat → Int32} {fc fw : Nat → Int64} (hD : h D = some (Ob 2 [.ref ab, .ref ao, .long mn, .int at', .ref ah, .ref aw])) (hb : h ab = some (Ai false 2 128 fb)) (hh : h ah = some (Al false 8 (fc))) (hw : h aw = some (Al false 80 (fw))) (n1 : ah ≠ aw) {Post : Outcome → AH → Prop} {f0 : Nat → Int64} (hf0 : IsWide fb 0 16 f0)
    (fin : ∀ f, IsWide fb 0 80 f → XX g MX4_mix ({ frames := 1, cells := 0, slots := 0, locals := 22 } : Room) Post 0 0 190 [(1, .int (nI 80)), (0, .ref D)] [] (hset h aw (Al false 80 (f)))) :
    XX g MX4_mix ({ frames := 1, cells := 0, slots := 0, locals := 22 } : Room) Post 0 0 62 [(1, .int (nI 16)), (0, .ref D)] [] (hset h aw (Al false 80 (f0))) := by
  have n3 : D ≠ aw := ne_of hD hw (fun e => by cases e)
  have loop : ∀ m i, i + m = 80 → 16 ≤ i → ∀ f : Nat → Int64, IsWide fb 0 i f → XX g MX4_mix ({ frames := 1, cells := 0, slots := 0, locals := 22 } : Room) Post 0 0 65 [(1, .int (nI i)), (0, .ref D)] [] (hset h aw (Al false 80 (f))) := by
    intro m
    induction m with
    | zero =>
      intro i hi h16 f hf
      have e : i = 80 := by omega
      subst e
      refine X_iload_n (pc := 65) 0 dX4_mix_65 rfl rfl ?_
      refine X_bipush (pc := 66) (x := 80) dX4_mix_66 (by decide) ?_
      refine X_cge (a := 80) (b := 80) (pc := 68) 190 dX4_mix_68 (by decide) (by omega) (by omega) (fun _ => ?_) (fun c => absurd c (by omega))
      exact fin f hf
    | succ m ih =>
      intro i hi h16 f hf
      have c1 := hset_self h aw (Al false 80 (f))
      have cD : hset h aw (Al false 80 (f)) D = some (Ob 2 [.ref ab, .ref ao, .long mn, .int at', .ref ah, .ref aw]) := by rw [hset_ne n3]; exact hD
      have ci : (nI i).toNatClampNeg = i := nI_clamp (by omega)
      have b1 : vp_in (nI i) 80 := vp_in_nI (by omega) (by omega)
      have d : ∀ k, k ≤ 16 → nI i - nI k = nI (i - k) := fun k hk => pk_sub (by omega)
      have cc : ∀ k, (nI (i - k)).toNatClampNeg = i - k := fun k => nI_clamp (by omega)
      have bb : ∀ k, vp_in (nI (i - k)) 80 := fun k => vp_in_nI (by omega) (by omega)
      refine X_iload_n (pc := 65) 0 dX4_mix_65 rfl rfl ?_
      refine X_bipush (pc := 66) (x := 80) dX4_mix_66 (by decide) ?_
      refine X_cge (b := 80) (pc := 68) 190 dX4_mix_68 (by decide) (by omega) (by omega) (fun c => absurd c (by omega)) (fun _ => ?_)
      refine X_aload_n (pc := 71) 1 dX4_mix_71 rfl rfl ?_
      refine X_getfield (pc := 72) dX4_mix_72 fg_X4_13_2 cD (by first | rfl | assumption) ?_
      refine X_iload_n (pc := 75) 0 dX4_mix_75 rfl rfl ?_
      refine X_bipush (pc := 76) (x := 15) dX4_mix_76 (by decide) ?_
      refine X_isub (pc := 78) dX4_mix_78 ?_
      rw [show nI i - 15 = nI (i - 15) from d 15 (by decide)]
      refine X_laload (pc := 79) dX4_mix_79 c1 (bb 15) ?_
      refine X_iconst (pc := 80) (x := 1) dX4_mix_80 (by decide) ?_
      rw [cc 15]
      refine X_isl (pc := 81) _ dX4_mix_81 cs_X4_29 rfl (lrot_ok g _ _ _ (by decide)) nJ8_rotateRight (Nat.le_of_ble_eq_true rfl) (Nat.le_of_ble_eq_true rfl) (Nat.le_of_ble_eq_true rfl) (Nat.le_of_ble_eq_true rfl) (fun r1 h1 q1 => ?_)
      obtain ⟨rfl, rfl⟩ := q1
      refine X_aload_n (pc := 84) 1 dX4_mix_84 rfl rfl ?_
      refine X_getfield (pc := 85) dX4_mix_85 fg_X4_13_2 cD (by first | rfl | assumption) ?_
      refine X_iload_n (pc := 88) 0 dX4_mix_88 rfl rfl ?_
      refine X_bipush (pc := 89) (x := 15) dX4_mix_89 (by decide) ?_
      refine X_isub (pc := 91) dX4_mix_91 ?_
      rw [show nI i - 15 = nI (i - 15) from d 15 (by decide)]
      refine X_laload (pc := 92) dX4_mix_92 c1 (bb 15) ?_
      refine X_bipush (pc := 93) (x := 8) dX4_mix_93 (by decide) ?_
      rw [cc 15]
      refine X_isl (pc := 95) _ dX4_mix_95 cs_X4_29 rfl (lrot_ok g _ _ _ (by decide)) nJ8_rotateRight (Nat.le_of_ble_eq_true rfl) (Nat.le_of_ble_eq_true rfl) (Nat.le_of_ble_eq_true rfl) (Nat.le_of_ble_eq_true rfl) (fun r2 h2 q2 => ?_)
      obtain ⟨rfl, rfl⟩ := q2
      refine X_lxor (pc := 98) dX4_mix_98 ?_
      refine X_aload_n (pc := 99) 1 dX4_mix_99 rfl rfl ?_
      refine X_getfield (pc := 100) dX4_mix_100 fg_X4_13_2 cD (by first | rfl | assumption) ?_
      refine X_iload_n (pc := 103) 0 dX4_mix_103 rfl rfl ?_
      refine X_bipush (pc := 104) (x := 15) dX4_mix_104 (by decide) ?_
      refine X_isub (pc := 106) dX4_mix_106 ?_
      rw [show nI i - 15 = nI (i - 15) from d 15 (by decide)]
      refine X_laload (pc := 107) dX4_mix_107 c1 (bb 15) ?_
      refine X_bipush (pc := 108) (x := 7) dX4_mix_108 (by decide) ?_
      refine X_lushr (pc := 110) dX4_mix_110 ?_
      refine X_lxor (pc := 111) dX4_mix_111 ?_
      refine X_lstore_n (pc := 112) (L' := [(2, .long _), (1, .int _), (0, .ref _)]) dX4_mix_112 rfl (Nat.le_of_ble_eq_true rfl) rfl ?_
      refine X_aload_n (pc := 113) 2 dX4_mix_113 rfl rfl ?_
      refine X_getfield (pc := 114) dX4_mix_114 fg_X4_13_2 cD (by first | rfl | assumption) ?_
      refine X_iload_n (pc := 117) 1 dX4_mix_117 rfl rfl ?_
      refine X_iconst (pc := 118) (x := 2) dX4_mix_118 (by decide) ?_
      refine X_isub (pc := 119) dX4_mix_119 ?_
      rw [cc 15]
      rw [show nI i - 2 = nI (i - 2) from d 2 (by decide)]
      refine X_laload (pc := 120) dX4_mix_120 c1 (bb 2) ?_
      refine X_bipush (pc := 121) (x := 19) dX4_mix_121 (by decide) ?_
      rw [cc 2]
      refine X_isl (pc := 123) _ dX4_mix_123 cs_X4_29 rfl (lrot_ok g _ _ _ (by decide)) nJ8_rotateRight (Nat.le_of_ble_eq_true rfl) (Nat.le_of_ble_eq_true rfl) (Nat.le_of_ble_eq_true rfl) (Nat.le_of_ble_eq_true rfl) (fun r3 h3 q3 => ?_)
      obtain ⟨rfl, rfl⟩ := q3
      refine X_aload_n (pc := 126) 2 dX4_mix_126 rfl rfl ?_
      refine X_getfield (pc := 127) dX4_mix_127 fg_X4_13_2 cD (by first | rfl | assumption) ?_
      refine X_iload_n (pc := 130) 1 dX4_mix_130 rfl rfl ?_
      refine X_iconst (pc := 131) (x := 2) dX4_mix_131 (by decide) ?_
      refine X_isub (pc := 132) dX4_mix_132 ?_
      rw [show nI i - 2 = nI (i - 2) from d 2 (by decide)]
      refine X_laload (pc := 133) dX4_mix_133 c1 (bb 2) ?_
      refine X_bipush (pc := 134) (x := 61) dX4_mix_134 (by decide) ?_
      rw [cc 2]
      refine X_isl (pc := 136) _ dX4_mix_136 cs_X4_29 rfl (lrot_ok g _ _ _ (by decide)) nJ8_rotateRight (Nat.le_of_ble_eq_true rfl) (Nat.le_of_ble_eq_true rfl) (Nat.le_of_ble_eq_true rfl) (Nat.le_of_ble_eq_true rfl) (fun r4 h4 q4 => ?_)
      obtain ⟨rfl, rfl⟩ := q4
      refine X_lxor (pc := 139) dX4_mix_139 ?_
      refine X_aload_n (pc := 140) 2 dX4_mix_140 rfl rfl ?_
      refine X_getfield (pc := 141) dX4_mix_141 fg_X4_13_2 cD (by first | rfl | assumption) ?_
      refine X_iload_n (pc := 144) 1 dX4_mix_144 rfl rfl ?_
      refine X_iconst (pc := 145) (x := 2) dX4_mix_145 (by decide) ?_
      refine X_isub (pc := 146) dX4_mix_146 ?_
      rw [show nI i - 2 = nI (i - 2) from d 2 (by decide)]
      refine X_laload (pc := 147) dX4_mix_147 c1 (bb 2) ?_
      refine X_bipush (pc := 148) (x := 6) dX4_mix_148 (by decide) ?_
      refine X_lushr (pc := 150) dX4_mix_150 ?_
      refine X_lxor (pc := 151) dX4_mix_151 ?_
      refine X_lstore (pc := 152) (L' := [(4, .long _), (2, .long _), (1, .int _), (0, .ref _)]) dX4_mix_152 (Nat.le_of_ble_eq_true rfl) rfl ?_
      refine X_aload_n (pc := 154) 3 dX4_mix_154 rfl rfl ?_
      refine X_getfield (pc := 155) dX4_mix_155 fg_X4_13_2 cD (by first | rfl | assumption) ?_
      refine X_iload_n (pc := 158) 2 dX4_mix_158 rfl rfl ?_
      refine X_aload_n (pc := 159) 3 dX4_mix_159 rfl rfl ?_
      refine X_getfield (pc := 160) dX4_mix_160 fg_X4_13_2 cD (by first | rfl | assumption) ?_
      refine X_iload_n (pc := 163) 2 dX4_mix_163 rfl rfl ?_
      refine X_bipush (pc := 164) (x := 16) dX4_mix_164 (by decide) ?_
      refine X_isub (pc := 166) dX4_mix_166 ?_
      rw [cc 2]
      rw [show nI i - 16 = nI (i - 16) from d 16 (by decide)]
      refine X_laload (pc := 167) dX4_mix_167 c1 (bb 16) ?_
      refine X_lload_n (pc := 168) 1 dX4_mix_168 rfl rfl ?_
      refine X_ladd (pc := 169) dX4_mix_169 ?_
      refine X_aload_n (pc := 170) 3 dX4_mix_170 rfl rfl ?_
      refine X_getfield (pc := 171) dX4_mix_171 fg_X4_13_2 cD (by first | rfl | assumption) ?_
      refine X_iload_n (pc := 174) 2 dX4_mix_174 rfl rfl ?_
      refine X_bipush (pc := 175) (x := 7) dX4_mix_175 (by decide) ?_
      refine X_isub (pc := 177) dX4_mix_177 ?_
      rw [cc 16]
      rw [show nI i - 7 = nI (i - 7) from d 7 (by decide)]
      refine X_laload (pc := 178) dX4_mix_178 c1 (bb 7) ?_
      refine X_ladd (pc := 179) dX4_mix_179 ?_
      refine X_lload (pc := 180) 0 dX4_mix_180 rfl ?_
      refine X_ladd (pc := 182) dX4_mix_182 ?_
      rw [cc 7]
      rw [add3L (f (i - 16)) _ (f (i - 7))]
      refine X_lastore (pc := 183) dX4_mix_183 c1 b1 ?_
      refine X_iinc (pc := 184) (L' := [(1, .int (_ + 1)), (4, .long _), (2, .long _), (0, .ref _)]) 2 dX4_mix_184 rfl rfl (Nat.le_of_ble_eq_true rfl) rfl ?_
      refine X_goto (pc := 187) 65 dX4_mix_187 (by decide) ?_
      rw [ci, hset_hset, show nI i + 1 = nI (i + 1) from nI_add i 1]
      refine XX.pick (L' := [(1, .int _), (0, .ref _)]) [0, 3] rfl ?_
      exact ih (i + 1) (by omega) (by omega) _ (hf.snoc (fun c => absurd c (by omega)) (fun _ => rfl))
  refine X_bipush (pc := 62) (x := 16) dX4_mix_62 (by decide) ?_
  refine X_istore_n (pc := 64) (L' := [(1, .int _), (0, .ref _)]) dX4_mix_64 rfl (Nat.le_of_ble_eq_true rfl) rfl ?_
  refine XX.pick (L' := [(1, .int _), (0, .ref _)]) [0, 1] rfl ?_
  exact loop 64 16 (by omega) (by omega) f0 hf0
set_option maxHeartbeats 8000000 in
theorem x4_mix_ok (g : GX) {h : AH} {D ab ao ah aw : Nat} {mn : Int64} {at' : Int32} {fb : Nat → Int32} {fc fw : Nat → Int64} (hD : h D = some (Ob 2 [.ref ab, .ref ao, .long mn, .int at', .ref ah, .ref aw])) (hb : h ab = some (Ai false 2 128 fb)) (hh : h ah = some (Al false 8 (fc))) (hw : h aw = some (Al false 80 (fw))) (n1 : ah ≠ aw) (n2 : ab ≠ aw) :
    MT g MX4_mix ({ frames := 1, cells := 0, slots := 0, locals := 22 } : Room) [.ref D] h (RV fun h' => ∃ f, IsWide fb 0 80 f ∧ h' = hset (hset h aw (Al false 80 (f))) ah (Al false 8 (cmpL (rnLs (fun j => t512.getD j 0) f fc 80) fc))) := by
  refine MT.of (by decide) (Nat.le_of_ble_eq_true rfl) ?_
  have n3 : D ≠ aw := ne_of hD hw (fun e => by cases e)
  have n4 : D ≠ ah := ne_of hD hh (fun e => by cases e)
  refine x4_mix_s1 g hD hb hh hw n1 n2 (fun f1 hf1 => x4_mix_s2 g hD hb hh hw n1 hf1 (fun f hf => ?_))
  have cD : hset h aw (Al false 80 (f)) D = some (Ob 2 [.ref ab, .ref ao, .long mn, .int at', .ref ah, .ref aw]) := by rw [hset_ne n3]; exact hD
  have ch : hset h aw (Al false 80 (f)) ah = some (Al false 8 (fc)) := by rw [hset_ne n1]; exact hh
  have cw := hset_self h aw (Al false 80 (f))
  generalize hh1 : hset h aw (Al false 80 (f)) = h1 at *
  refine X_aload_n (pc := 190) 1 dX4_mix_190 rfl rfl ?_
  refine X_getfield (pc := 191) dX4_mix_191 fg_X4_7_2 cD (by first | rfl | assumption) ?_
  refine X_iconst (pc := 194) (x := 0) dX4_mix_194 (by decide) ?_
  refine X_laload (pc := 195) dX4_mix_195 ch (vp_in_nI (n := 0) (by decide) (by decide)) ?_
  refine X_lstore_n (pc := 196) (L' := [(1, .long _), (0, .ref _)]) dX4_mix_196 rfl (Nat.le_of_ble_eq_true rfl) rfl ?_
  refine X_aload_n (pc := 197) 1 dX4_mix_197 rfl rfl ?_
  refine X_getfield (pc := 198) dX4_mix_198 fg_X4_7_2 cD (by first | rfl | assumption) ?_
  refine X_iconst (pc := 201) (x := 1) dX4_mix_201 (by decide) ?_
  refine X_laload (pc := 202) dX4_mix_202 ch (vp_in_nI (n := 1) (by decide) (by decide)) ?_
  refine X_lstore_n (pc := 203) (L' := [(3, .long _), (1, .long _), (0, .ref _)]) dX4_mix_203 rfl (Nat.le_of_ble_eq_true rfl) rfl ?_
  refine X_aload_n (pc := 204) 2 dX4_mix_204 rfl rfl ?_
  refine X_getfield (pc := 205) dX4_mix_205 fg_X4_7_2 cD (by first | rfl | assumption) ?_
  refine X_iconst (pc := 208) (x := 2) dX4_mix_208 (by decide) ?_
  refine X_laload (pc := 209) dX4_mix_209 ch (vp_in_nI (n := 2) (by decide) (by decide)) ?_
  refine X_lstore (pc := 210) (L' := [(5, .long _), (3, .long _), (1, .long _), (0, .ref _)]) dX4_mix_210 (Nat.le_of_ble_eq_true rfl) rfl ?_
  refine X_aload_n (pc := 212) 3 dX4_mix_212 rfl rfl ?_
  refine X_getfield (pc := 213) dX4_mix_213 fg_X4_7_2 cD (by first | rfl | assumption) ?_
  refine X_iconst (pc := 216) (x := 3) dX4_mix_216 (by decide) ?_
  refine X_laload (pc := 217) dX4_mix_217 ch (vp_in_nI (n := 3) (by decide) (by decide)) ?_
  refine X_lstore (pc := 218) (L' := [(7, .long _), (5, .long _), (3, .long _), (1, .long _), (0, .ref _)]) dX4_mix_218 (Nat.le_of_ble_eq_true rfl) rfl ?_
  refine X_aload_n (pc := 220) 4 dX4_mix_220 rfl rfl ?_
  refine X_getfield (pc := 221) dX4_mix_221 fg_X4_7_2 cD (by first | rfl | assumption) ?_
  refine X_iconst (pc := 224) (x := 4) dX4_mix_224 (by decide) ?_
  refine X_laload (pc := 225) dX4_mix_225 ch (vp_in_nI (n := 4) (by decide) (by decide)) ?_
  refine X_lstore (pc := 226) (L' := [(9, .long _), (7, .long _), (5, .long _), (3, .long _), (1, .long _), (0, .ref _)]) dX4_mix_226 (Nat.le_of_ble_eq_true rfl) rfl ?_
  refine X_aload_n (pc := 228) 5 dX4_mix_228 rfl rfl ?_
  refine X_getfield (pc := 229) dX4_mix_229 fg_X4_7_2 cD (by first | rfl | assumption) ?_
  refine X_iconst (pc := 232) (x := 5) dX4_mix_232 (by decide) ?_
  refine X_laload (pc := 233) dX4_mix_233 ch (vp_in_nI (n := 5) (by decide) (by decide)) ?_
  refine X_lstore (pc := 234) (L' := [(11, .long _), (9, .long _), (7, .long _), (5, .long _), (3, .long _), (1, .long _), (0, .ref _)]) dX4_mix_234 (Nat.le_of_ble_eq_true rfl) rfl ?_
  refine X_aload_n (pc := 236) 6 dX4_mix_236 rfl rfl ?_
  refine X_getfield (pc := 237) dX4_mix_237 fg_X4_7_2 cD (by first | rfl | assumption) ?_
  refine X_bipush (pc := 240) (x := 6) dX4_mix_240 (by decide) ?_
  refine X_laload (pc := 242) dX4_mix_242 ch (vp_in_nI (n := 6) (by decide) (by decide)) ?_
  refine X_lstore (pc := 243) (L' := [(13, .long _), (11, .long _), (9, .long _), (7, .long _), (5, .long _), (3, .long _), (1, .long _), (0, .ref _)]) dX4_mix_243 (Nat.le_of_ble_eq_true rfl) rfl ?_
  refine X_aload_n (pc := 245) 7 dX4_mix_245 rfl rfl ?_
  refine X_getfield (pc := 246) dX4_mix_246 fg_X4_7_2 cD (by first | rfl | assumption) ?_
  refine X_bipush (pc := 249) (x := 7) dX4_mix_249 (by decide) ?_
  refine X_laload (pc := 251) dX4_mix_251 ch (vp_in_nI (n := 7) (by decide) (by decide)) ?_
  refine X_lstore (pc := 252) (L' := [(15, .long _), (13, .long _), (11, .long _), (9, .long _), (7, .long _), (5, .long _), (3, .long _), (1, .long _), (0, .ref _)]) dX4_mix_252 (Nat.le_of_ble_eq_true rfl) rfl ?_
  refine X_iconst (pc := 254) (x := 0) dX4_mix_254 (by decide) ?_
  refine X_istore (pc := 255) (L' := [(17, .int _), (15, .long _), (13, .long _), (11, .long _), (9, .long _), (7, .long _), (5, .long _), (3, .long _), (1, .long _), (0, .ref _)]) dX4_mix_255 (Nat.le_of_ble_eq_true rfl) rfl ?_
  have loop : ∀ m i, i + m = 80 → XX g MX4_mix ({ frames := 1, cells := 0, slots := 0, locals := 22 } : Room) (RV fun h' => ∃ f, IsWide fb 0 80 f ∧ h' = hset (hset h aw (Al false 80 (f))) ah (Al false 8 (cmpL (rnLs (fun j => t512.getD j 0) f fc 80) fc))) 0 0 257 [(17, .int (nI i)), (15, .long (rnLs (fun j => t512.getD j 0) f fc i 7)), (13, .long (rnLs (fun j => t512.getD j 0) f fc i 6)), (11, .long (rnLs (fun j => t512.getD j 0) f fc i 5)), (9, .long (rnLs (fun j => t512.getD j 0) f fc i 4)), (7, .long (rnLs (fun j => t512.getD j 0) f fc i 3)), (5, .long (rnLs (fun j => t512.getD j 0) f fc i 2)), (3, .long (rnLs (fun j => t512.getD j 0) f fc i 1)), (1, .long (rnLs (fun j => t512.getD j 0) f fc i 0)), (0, .ref D)] [] h1 := by
    intro m
    induction m with
    | zero =>
      intro i hi
      have e : i = 80 := by omega
      subst e
      generalize hs : rnLs (fun j => t512.getD j 0) f fc 80 = s at *
      have o : ∀ (u : Nat → Int64) (i j : Nat) (x : Int64), j ≠ i → vp_updL u i x j = u j := fun u i j x e => if_neg e
      refine X_iload (pc := 257) 0 dX4_mix_257 rfl ?_
      refine X_bipush (pc := 259) (x := 80) dX4_mix_259 (by decide) ?_
      refine X_cge (a := 80) (b := 80) (pc := 261) 399 dX4_mix_261 (by decide) (by omega) (by omega) (fun _ => ?_) (fun c => absurd c (by omega))
      obtain ⟨v0, hv0⟩ : ∃ v, v = fc := ⟨_, rfl⟩
      rw [← hv0] at ch
      have k0 : ∀ j, 0 ≤ j → v0 j = fc j := fun j _ => by rw [hv0]
      have m0 : ∀ j, j < 0 → v0 j = fc j + s j := fun j hj => absurd hj (by omega)
      have g0 := cD
      have d0 := ch
      refine X_aload_n (pc := 399) 9 dX4_mix_399 rfl rfl ?_
      refine X_getfield (pc := 400) dX4_mix_400 fg_X4_7_2 g0 (by first | rfl | assumption) ?_
      refine X_iconst (pc := 403) (x := 0) dX4_mix_403 (by decide) ?_
      refine X_dup2_11 (pc := 404) dX4_mix_404 rfl rfl ?_
      refine X_laload (pc := 405) dX4_mix_405 d0 (vp_in_nI (n := 0) (by decide) (by decide)) ?_
      refine X_lload_n (pc := 406) 8 dX4_mix_406 rfl rfl ?_
      refine X_ladd (pc := 407) dX4_mix_407 ?_
      refine X_lastore (pc := 408) dX4_mix_408 d0 (vp_in_nI (n := 0) (by decide) (by decide)) ?_
      obtain ⟨v1, hv1⟩ : ∃ v, v = vp_updL v0 0 (v0 0 + s 0) := ⟨_, rfl⟩
      have k1 : ∀ j, 1 ≤ j → v1 j = fc j := fun j hj => by rw [hv1, o _ _ _ _ (by omega)]; exact k0 j (by omega)
      have m1 : ∀ j, j < 1 → v1 j = fc j + s j := fun j hj => by
        rw [hv1]
        by_cases e : j = 0
        · rw [e, show vp_updL v0 0 (v0 0 + s 0) 0 = v0 0 + s 0 from if_pos rfl, k0 0 (Nat.le_refl _)]
        · rw [o _ _ _ _ e]; exact m0 j (by omega)
      have g1 : hset h1 ah (Al false 8 (v1)) D = some (Ob 2 [.ref ab, .ref ao, .long mn, .int at', .ref ah, .ref aw]) := by rw [hset_ne n4]; exact cD
      have d1 := hset_self h1 ah (Al false 8 (v1))
      refine XX.eqh (show _ = hset h1 ah (Al false 8 (v1)) by rw [hv1] <;> rfl) ?_
      refine X_aload_n (pc := 409) 9 dX4_mix_409 rfl rfl ?_
      refine X_getfield (pc := 410) dX4_mix_410 fg_X4_7_2 g1 (by first | rfl | assumption) ?_
      refine X_iconst (pc := 413) (x := 1) dX4_mix_413 (by decide) ?_
      refine X_dup2_11 (pc := 414) dX4_mix_414 rfl rfl ?_
      refine X_laload (pc := 415) dX4_mix_415 d1 (vp_in_nI (n := 1) (by decide) (by decide)) ?_
      refine X_lload_n (pc := 416) 7 dX4_mix_416 rfl rfl ?_
      refine X_ladd (pc := 417) dX4_mix_417 ?_
      refine X_lastore (pc := 418) dX4_mix_418 d1 (vp_in_nI (n := 1) (by decide) (by decide)) ?_
      obtain ⟨v2, hv2⟩ : ∃ v, v = vp_updL v1 1 (v1 1 + s 1) := ⟨_, rfl⟩
      have k2 : ∀ j, 2 ≤ j → v2 j = fc j := fun j hj => by rw [hv2, o _ _ _ _ (by omega)]; exact k1 j (by omega)
      have m2 : ∀ j, j < 2 → v2 j = fc j + s j := fun j hj => by
        rw [hv2]
        by_cases e : j = 1
        · rw [e, show vp_updL v1 1 (v1 1 + s 1) 1 = v1 1 + s 1 from if_pos rfl, k1 1 (Nat.le_refl _)]
        · rw [o _ _ _ _ e]; exact m1 j (by omega)
      have g2 : hset h1 ah (Al false 8 (v2)) D = some (Ob 2 [.ref ab, .ref ao, .long mn, .int at', .ref ah, .ref aw]) := by rw [hset_ne n4]; exact cD
      have d2 := hset_self h1 ah (Al false 8 (v2))
      refine XX.eqh (show _ = hset h1 ah (Al false 8 (v2)) by rw [hset_hset, hv2] <;> rfl) ?_
      refine X_aload_n (pc := 419) 9 dX4_mix_419 rfl rfl ?_
      refine X_getfield (pc := 420) dX4_mix_420 fg_X4_7_2 g2 (by first | rfl | assumption) ?_
      refine X_iconst (pc := 423) (x := 2) dX4_mix_423 (by decide) ?_
      refine X_dup2_11 (pc := 424) dX4_mix_424 rfl rfl ?_
      refine X_laload (pc := 425) dX4_mix_425 d2 (vp_in_nI (n := 2) (by decide) (by decide)) ?_
      refine X_lload (pc := 426) 6 dX4_mix_426 rfl ?_
      refine X_ladd (pc := 428) dX4_mix_428 ?_
      refine X_lastore (pc := 429) dX4_mix_429 d2 (vp_in_nI (n := 2) (by decide) (by decide)) ?_
      obtain ⟨v3, hv3⟩ : ∃ v, v = vp_updL v2 2 (v2 2 + s 2) := ⟨_, rfl⟩
      have k3 : ∀ j, 3 ≤ j → v3 j = fc j := fun j hj => by rw [hv3, o _ _ _ _ (by omega)]; exact k2 j (by omega)
      have m3 : ∀ j, j < 3 → v3 j = fc j + s j := fun j hj => by
        rw [hv3]
        by_cases e : j = 2
        · rw [e, show vp_updL v2 2 (v2 2 + s 2) 2 = v2 2 + s 2 from if_pos rfl, k2 2 (Nat.le_refl _)]
        · rw [o _ _ _ _ e]; exact m2 j (by omega)
      have g3 : hset h1 ah (Al false 8 (v3)) D = some (Ob 2 [.ref ab, .ref ao, .long mn, .int at', .ref ah, .ref aw]) := by rw [hset_ne n4]; exact cD
      have d3 := hset_self h1 ah (Al false 8 (v3))
      refine XX.eqh (show _ = hset h1 ah (Al false 8 (v3)) by rw [hset_hset, hv3] <;> rfl) ?_
      refine X_aload_n (pc := 430) 9 dX4_mix_430 rfl rfl ?_
      refine X_getfield (pc := 431) dX4_mix_431 fg_X4_7_2 g3 (by first | rfl | assumption) ?_
      refine X_iconst (pc := 434) (x := 3) dX4_mix_434 (by decide) ?_
      refine X_dup2_11 (pc := 435) dX4_mix_435 rfl rfl ?_
      refine X_laload (pc := 436) dX4_mix_436 d3 (vp_in_nI (n := 3) (by decide) (by decide)) ?_
      refine X_lload (pc := 437) 5 dX4_mix_437 rfl ?_
      refine X_ladd (pc := 439) dX4_mix_439 ?_
      refine X_lastore (pc := 440) dX4_mix_440 d3 (vp_in_nI (n := 3) (by decide) (by decide)) ?_
      obtain ⟨v4, hv4⟩ : ∃ v, v = vp_updL v3 3 (v3 3 + s 3) := ⟨_, rfl⟩
      have k4 : ∀ j, 4 ≤ j → v4 j = fc j := fun j hj => by rw [hv4, o _ _ _ _ (by omega)]; exact k3 j (by omega)
      have m4 : ∀ j, j < 4 → v4 j = fc j + s j := fun j hj => by
        rw [hv4]
        by_cases e : j = 3
        · rw [e, show vp_updL v3 3 (v3 3 + s 3) 3 = v3 3 + s 3 from if_pos rfl, k3 3 (Nat.le_refl _)]
        · rw [o _ _ _ _ e]; exact m3 j (by omega)
      have g4 : hset h1 ah (Al false 8 (v4)) D = some (Ob 2 [.ref ab, .ref ao, .long mn, .int at', .ref ah, .ref aw]) := by rw [hset_ne n4]; exact cD
      have d4 := hset_self h1 ah (Al false 8 (v4))
      refine XX.eqh (show _ = hset h1 ah (Al false 8 (v4)) by rw [hset_hset, hv4] <;> rfl) ?_
      refine X_aload_n (pc := 441) 9 dX4_mix_441 rfl rfl ?_
      refine X_getfield (pc := 442) dX4_mix_442 fg_X4_7_2 g4 (by first | rfl | assumption) ?_
      refine X_iconst (pc := 445) (x := 4) dX4_mix_445 (by decide) ?_
      refine X_dup2_11 (pc := 446) dX4_mix_446 rfl rfl ?_
      refine X_laload (pc := 447) dX4_mix_447 d4 (vp_in_nI (n := 4) (by decide) (by decide)) ?_
      refine X_lload (pc := 448) 4 dX4_mix_448 rfl ?_
      refine X_ladd (pc := 450) dX4_mix_450 ?_
      refine X_lastore (pc := 451) dX4_mix_451 d4 (vp_in_nI (n := 4) (by decide) (by decide)) ?_
      obtain ⟨v5, hv5⟩ : ∃ v, v = vp_updL v4 4 (v4 4 + s 4) := ⟨_, rfl⟩
      have k5 : ∀ j, 5 ≤ j → v5 j = fc j := fun j hj => by rw [hv5, o _ _ _ _ (by omega)]; exact k4 j (by omega)
      have m5 : ∀ j, j < 5 → v5 j = fc j + s j := fun j hj => by
        rw [hv5]
        by_cases e : j = 4
        · rw [e, show vp_updL v4 4 (v4 4 + s 4) 4 = v4 4 + s 4 from if_pos rfl, k4 4 (Nat.le_refl _)]
        · rw [o _ _ _ _ e]; exact m4 j (by omega)
      have g5 : hset h1 ah (Al false 8 (v5)) D = some (Ob 2 [.ref ab, .ref ao, .long mn, .int at', .ref ah, .ref aw]) := by rw [hset_ne n4]; exact cD
      have d5 := hset_self h1 ah (Al false 8 (v5))
      refine XX.eqh (show _ = hset h1 ah (Al false 8 (v5)) by rw [hset_hset, hv5] <;> rfl) ?_
      refine X_aload_n (pc := 452) 9 dX4_mix_452 rfl rfl ?_
      refine X_getfield (pc := 453) dX4_mix_453 fg_X4_7_2 g5 (by first | rfl | assumption) ?_
      refine X_iconst (pc := 456) (x := 5) dX4_mix_456 (by decide) ?_
      refine X_dup2_11 (pc := 457) dX4_mix_457 rfl rfl ?_
      refine X_laload (pc := 458) dX4_mix_458 d5 (vp_in_nI (n := 5) (by decide) (by decide)) ?_
      refine X_lload (pc := 459) 3 dX4_mix_459 rfl ?_
      refine X_ladd (pc := 461) dX4_mix_461 ?_
      refine X_lastore (pc := 462) dX4_mix_462 d5 (vp_in_nI (n := 5) (by decide) (by decide)) ?_
      obtain ⟨v6, hv6⟩ : ∃ v, v = vp_updL v5 5 (v5 5 + s 5) := ⟨_, rfl⟩
      have k6 : ∀ j, 6 ≤ j → v6 j = fc j := fun j hj => by rw [hv6, o _ _ _ _ (by omega)]; exact k5 j (by omega)
      have m6 : ∀ j, j < 6 → v6 j = fc j + s j := fun j hj => by
        rw [hv6]
        by_cases e : j = 5
        · rw [e, show vp_updL v5 5 (v5 5 + s 5) 5 = v5 5 + s 5 from if_pos rfl, k5 5 (Nat.le_refl _)]
        · rw [o _ _ _ _ e]; exact m5 j (by omega)
      have g6 : hset h1 ah (Al false 8 (v6)) D = some (Ob 2 [.ref ab, .ref ao, .long mn, .int at', .ref ah, .ref aw]) := by rw [hset_ne n4]; exact cD
      have d6 := hset_self h1 ah (Al false 8 (v6))
      refine XX.eqh (show _ = hset h1 ah (Al false 8 (v6)) by rw [hset_hset, hv6] <;> rfl) ?_
      refine X_aload_n (pc := 463) 9 dX4_mix_463 rfl rfl ?_
      refine X_getfield (pc := 464) dX4_mix_464 fg_X4_7_2 g6 (by first | rfl | assumption) ?_
      refine X_bipush (pc := 467) (x := 6) dX4_mix_467 (by decide) ?_
      refine X_dup2_11 (pc := 469) dX4_mix_469 rfl rfl ?_
      refine X_laload (pc := 470) dX4_mix_470 d6 (vp_in_nI (n := 6) (by decide) (by decide)) ?_
      refine X_lload (pc := 471) 2 dX4_mix_471 rfl ?_
      refine X_ladd (pc := 473) dX4_mix_473 ?_
      refine X_lastore (pc := 474) dX4_mix_474 d6 (vp_in_nI (n := 6) (by decide) (by decide)) ?_
      obtain ⟨v7, hv7⟩ : ∃ v, v = vp_updL v6 6 (v6 6 + s 6) := ⟨_, rfl⟩
      have k7 : ∀ j, 7 ≤ j → v7 j = fc j := fun j hj => by rw [hv7, o _ _ _ _ (by omega)]; exact k6 j (by omega)
      have m7 : ∀ j, j < 7 → v7 j = fc j + s j := fun j hj => by
        rw [hv7]
        by_cases e : j = 6
        · rw [e, show vp_updL v6 6 (v6 6 + s 6) 6 = v6 6 + s 6 from if_pos rfl, k6 6 (Nat.le_refl _)]
        · rw [o _ _ _ _ e]; exact m6 j (by omega)
      have g7 : hset h1 ah (Al false 8 (v7)) D = some (Ob 2 [.ref ab, .ref ao, .long mn, .int at', .ref ah, .ref aw]) := by rw [hset_ne n4]; exact cD
      have d7 := hset_self h1 ah (Al false 8 (v7))
      refine XX.eqh (show _ = hset h1 ah (Al false 8 (v7)) by rw [hset_hset, hv7] <;> rfl) ?_
      refine X_aload_n (pc := 475) 9 dX4_mix_475 rfl rfl ?_
      refine X_getfield (pc := 476) dX4_mix_476 fg_X4_7_2 g7 (by first | rfl | assumption) ?_
      refine X_bipush (pc := 479) (x := 7) dX4_mix_479 (by decide) ?_
      refine X_dup2_11 (pc := 481) dX4_mix_481 rfl rfl ?_
      refine X_laload (pc := 482) dX4_mix_482 d7 (vp_in_nI (n := 7) (by decide) (by decide)) ?_
      refine X_lload (pc := 483) 1 dX4_mix_483 rfl ?_
      refine X_ladd (pc := 485) dX4_mix_485 ?_
      refine X_lastore (pc := 486) dX4_mix_486 d7 (vp_in_nI (n := 7) (by decide) (by decide)) ?_
      obtain ⟨v8, hv8⟩ : ∃ v, v = vp_updL v7 7 (v7 7 + s 7) := ⟨_, rfl⟩
      have k8 : ∀ j, 8 ≤ j → v8 j = fc j := fun j hj => by rw [hv8, o _ _ _ _ (by omega)]; exact k7 j (by omega)
      have m8 : ∀ j, j < 8 → v8 j = fc j + s j := fun j hj => by
        rw [hv8]
        by_cases e : j = 7
        · rw [e, show vp_updL v7 7 (v7 7 + s 7) 7 = v7 7 + s 7 from if_pos rfl, k7 7 (Nat.le_refl _)]
        · rw [o _ _ _ _ e]; exact m7 j (by omega)
      have g8 : hset h1 ah (Al false 8 (v8)) D = some (Ob 2 [.ref ab, .ref ao, .long mn, .int at', .ref ah, .ref aw]) := by rw [hset_ne n4]; exact cD
      have d8 := hset_self h1 ah (Al false 8 (v8))
      refine XX.eqh (show _ = hset h1 ah (Al false 8 (v8)) by rw [hset_hset, hv8] <;> rfl) ?_
      refine X_return (pc := 487) dX4_mix_487 rfl (Nat.le_of_ble_eq_true rfl) (Nat.le_of_ble_eq_true rfl) ?_
      refine ⟨rfl, f, hf, ?_⟩
      have ev : v8 = cmpL s fc := by
        funext j
        unfold cmpL
        by_cases e : j < 8
        · rw [if_pos e]; exact m8 j e
        · rw [if_neg e]; exact k8 j (by omega)
      rw [hh1, hs, ev]
    | succ m ih =>
      intro i hi
      have ci : (nI i).toNatClampNeg = i := nI_clamp (by omega)
      have b1 : vp_in (nI i) 80 := vp_in_nI (by omega) (by omega)
      have ih := ih (i + 1) (by omega)
      generalize hs : rnLs (fun j => t512.getD j 0) f fc i = s at *
      have hs1 : rnLs (fun j => t512.getD j 0) f fc (i + 1) = rnL s (t512.getD i 0) (f i) := by rw [← hs]; rfl
      rw [hs1] at ih
      refine X_iload (pc := 257) 0 dX4_mix_257 rfl ?_
      refine X_bipush (pc := 259) (x := 80) dX4_mix_259 (by decide) ?_
      refine X_cge (b := 80) (pc := 261) 399 dX4_mix_261 (by decide) (by omega) (by omega) (fun c => absurd c (by omega)) (fun _ => ?_)
      refine X_lload (pc := 264) 1 dX4_mix_264 rfl ?_
      refine X_lload (pc := 266) 4 dX4_mix_266 rfl ?_
      refine X_bipush (pc := 268) (x := 14) dX4_mix_268 (by decide) ?_
      refine X_isl (pc := 270) _ dX4_mix_270 cs_X4_29 rfl (lrot_ok g _ _ _ (by decide)) nJ8_rotateRight (Nat.le_of_ble_eq_true rfl) (Nat.le_of_ble_eq_true rfl) (Nat.le_of_ble_eq_true rfl) (Nat.le_of_ble_eq_true rfl) (fun r1 h2 q1 => ?_)
      obtain ⟨rfl, rfl⟩ := q1
      refine X_lload (pc := 273) 4 dX4_mix_273 rfl ?_
      refine X_bipush (pc := 275) (x := 18) dX4_mix_275 (by decide) ?_
      refine X_isl (pc := 277) _ dX4_mix_277 cs_X4_29 rfl (lrot_ok g _ _ _ (by decide)) nJ8_rotateRight (Nat.le_of_ble_eq_true rfl) (Nat.le_of_ble_eq_true rfl) (Nat.le_of_ble_eq_true rfl) (Nat.le_of_ble_eq_true rfl) (fun r1 h2 q1 => ?_)
      obtain ⟨rfl, rfl⟩ := q1
      refine X_lxor (pc := 280) dX4_mix_280 ?_
      refine X_lload (pc := 281) 4 dX4_mix_281 rfl ?_
      refine X_bipush (pc := 283) (x := 41) dX4_mix_283 (by decide) ?_
      refine X_isl (pc := 285) _ dX4_mix_285 cs_X4_29 rfl (lrot_ok g _ _ _ (by decide)) nJ8_rotateRight (Nat.le_of_ble_eq_true rfl) (Nat.le_of_ble_eq_true rfl) (Nat.le_of_ble_eq_true rfl) (Nat.le_of_ble_eq_true rfl) (fun r1 h2 q1 => ?_)
      obtain ⟨rfl, rfl⟩ := q1
      refine X_lxor (pc := 288) dX4_mix_288 ?_
      refine X_ladd (pc := 289) dX4_mix_289 ?_
      refine X_lload (pc := 290) 4 dX4_mix_290 rfl ?_
      refine X_lload (pc := 292) 3 dX4_mix_292 rfl ?_
      refine X_land (pc := 294) dX4_mix_294 ?_
      refine X_lload (pc := 295) 4 dX4_mix_295 rfl ?_
      refine X_ldc2 (pc := 297) dX4_mix_297 q878 ?_
      refine X_lxor (pc := 300) dX4_mix_300 ?_
      refine X_lload (pc := 301) 2 dX4_mix_301 rfl ?_
      refine X_land (pc := 303) dX4_mix_303 ?_
      refine X_lxor (pc := 304) dX4_mix_304 ?_
      refine X_ladd (pc := 305) dX4_mix_305 ?_
      refine X_getstatic (pc := 306) (j := 1) dX4_mix_306 q879 (fun _ => rfl) rfl (fun st_306 hs_306 => ?_)
      refine X_iload (pc := 309) 0 dX4_mix_309 rfl ?_
      refine X_laload (pc := 311) dX4_mix_311 hs_306 b1 ?_
      refine X_ladd (pc := 312) dX4_mix_312 ?_
      refine X_aload_n (pc := 313) 9 dX4_mix_313 rfl rfl ?_
      refine X_getfield (pc := 314) dX4_mix_314 fg_X4_13_2 cD (by first | rfl | assumption) ?_
      refine X_iload (pc := 317) 0 dX4_mix_317 rfl ?_
      refine X_laload (pc := 319) dX4_mix_319 cw b1 ?_
      refine X_ladd (pc := 320) dX4_mix_320 ?_
      refine X_lstore (pc := 321) (L' := [(18, .long _), (17, .int _), (15, .long _), (13, .long _), (11, .long _), (9, .long _), (7, .long _), (5, .long _), (3, .long _), (1, .long _), (0, .ref _)]) dX4_mix_321 (Nat.le_of_ble_eq_true rfl) rfl ?_
      refine X_lload_n (pc := 323) 9 dX4_mix_323 rfl rfl ?_
      refine X_bipush (pc := 324) (x := 28) dX4_mix_324 (by decide) ?_
      refine X_isl (pc := 326) _ dX4_mix_326 cs_X4_29 rfl (lrot_ok g _ _ _ (by decide)) nJ8_rotateRight (Nat.le_of_ble_eq_true rfl) (Nat.le_of_ble_eq_true rfl) (Nat.le_of_ble_eq_true rfl) (Nat.le_of_ble_eq_true rfl) (fun r1 h2 q1 => ?_)
      obtain ⟨rfl, rfl⟩ := q1
      refine X_lload_n (pc := 329) 9 dX4_mix_329 rfl rfl ?_
      refine X_bipush (pc := 330) (x := 34) dX4_mix_330 (by decide) ?_
      refine X_isl (pc := 332) _ dX4_mix_332 cs_X4_29 rfl (lrot_ok g _ _ _ (by decide)) nJ8_rotateRight (Nat.le_of_ble_eq_true rfl) (Nat.le_of_ble_eq_true rfl) (Nat.le_of_ble_eq_true rfl) (Nat.le_of_ble_eq_true rfl) (fun r1 h2 q1 => ?_)
      obtain ⟨rfl, rfl⟩ := q1
      refine X_lxor (pc := 335) dX4_mix_335 ?_
      refine X_lload_n (pc := 336) 9 dX4_mix_336 rfl rfl ?_
      refine X_bipush (pc := 337) (x := 39) dX4_mix_337 (by decide) ?_
      refine X_isl (pc := 339) _ dX4_mix_339 cs_X4_29 rfl (lrot_ok g _ _ _ (by decide)) nJ8_rotateRight (Nat.le_of_ble_eq_true rfl) (Nat.le_of_ble_eq_true rfl) (Nat.le_of_ble_eq_true rfl) (Nat.le_of_ble_eq_true rfl) (fun r1 h2 q1 => ?_)
      obtain ⟨rfl, rfl⟩ := q1
      refine X_lxor (pc := 342) dX4_mix_342 ?_
      refine X_lload_n (pc := 343) 9 dX4_mix_343 rfl rfl ?_
      refine X_lload_n (pc := 344) 8 dX4_mix_344 rfl rfl ?_
      refine X_land (pc := 345) dX4_mix_345 ?_
      refine X_lload_n (pc := 346) 9 dX4_mix_346 rfl rfl ?_
      refine X_lload (pc := 347) 7 dX4_mix_347 rfl ?_
      refine X_land (pc := 349) dX4_mix_349 ?_
      refine X_lxor (pc := 350) dX4_mix_350 ?_
      refine X_lload_n (pc := 351) 8 dX4_mix_351 rfl rfl ?_
      refine X_lload (pc := 352) 7 dX4_mix_352 rfl ?_
      refine X_land (pc := 354) dX4_mix_354 ?_
      refine X_lxor (pc := 355) dX4_mix_355 ?_
      refine X_ladd (pc := 356) dX4_mix_356 ?_
      refine X_lstore (pc := 357) (L' := [(20, .long _), (18, .long _), (17, .int _), (15, .long _), (13, .long _), (11, .long _), (9, .long _), (7, .long _), (5, .long _), (3, .long _), (1, .long _), (0, .ref _)]) dX4_mix_357 (Nat.le_of_ble_eq_true rfl) rfl ?_
      refine X_lload (pc := 359) 4 dX4_mix_359 rfl ?_
      refine X_lstore (pc := 361) (L' := [(15, .long _), (20, .long _), (18, .long _), (17, .int _), (13, .long _), (11, .long _), (9, .long _), (7, .long _), (5, .long _), (3, .long _), (1, .long _), (0, .ref _)]) dX4_mix_361 (Nat.le_of_ble_eq_true rfl) rfl ?_
      refine X_lload (pc := 363) 5 dX4_mix_363 rfl ?_
      refine X_lstore (pc := 365) (L' := [(13, .long _), (15, .long _), (20, .long _), (18, .long _), (17, .int _), (11, .long _), (9, .long _), (7, .long _), (5, .long _), (3, .long _), (1, .long _), (0, .ref _)]) dX4_mix_365 (Nat.le_of_ble_eq_true rfl) rfl ?_
      refine X_lload (pc := 367) 6 dX4_mix_367 rfl ?_
      refine X_lstore (pc := 369) (L' := [(11, .long _), (13, .long _), (15, .long _), (20, .long _), (18, .long _), (17, .int _), (9, .long _), (7, .long _), (5, .long _), (3, .long _), (1, .long _), (0, .ref _)]) dX4_mix_369 (Nat.le_of_ble_eq_true rfl) rfl ?_
      refine X_lload (pc := 371) 7 dX4_mix_371 rfl ?_
      refine X_lload (pc := 373) 4 dX4_mix_373 rfl ?_
      refine X_ladd (pc := 375) dX4_mix_375 ?_
      refine X_lstore (pc := 376) (L' := [(9, .long _), (11, .long _), (13, .long _), (15, .long _), (20, .long _), (18, .long _), (17, .int _), (7, .long _), (5, .long _), (3, .long _), (1, .long _), (0, .ref _)]) dX4_mix_376 (Nat.le_of_ble_eq_true rfl) rfl ?_
      refine X_lload (pc := 378) 8 dX4_mix_378 rfl ?_
      refine X_lstore (pc := 380) (L' := [(7, .long _), (9, .long _), (11, .long _), (13, .long _), (15, .long _), (20, .long _), (18, .long _), (17, .int _), (5, .long _), (3, .long _), (1, .long _), (0, .ref _)]) dX4_mix_380 (Nat.le_of_ble_eq_true rfl) rfl ?_
      refine X_lload_n (pc := 382) 9 dX4_mix_382 rfl rfl ?_
      refine X_lstore (pc := 383) (L' := [(5, .long _), (7, .long _), (9, .long _), (11, .long _), (13, .long _), (15, .long _), (20, .long _), (18, .long _), (17, .int _), (3, .long _), (1, .long _), (0, .ref _)]) dX4_mix_383 (Nat.le_of_ble_eq_true rfl) rfl ?_
      refine X_lload_n (pc := 385) 10 dX4_mix_385 rfl rfl ?_
      refine X_lstore_n (pc := 386) (L' := [(3, .long _), (5, .long _), (7, .long _), (9, .long _), (11, .long _), (13, .long _), (15, .long _), (20, .long _), (18, .long _), (17, .int _), (1, .long _), (0, .ref _)]) dX4_mix_386 rfl (Nat.le_of_ble_eq_true rfl) rfl ?_
      refine X_lload (pc := 387) 8 dX4_mix_387 rfl ?_
      refine X_lload (pc := 389) 7 dX4_mix_389 rfl ?_
      refine X_ladd (pc := 391) dX4_mix_391 ?_
      refine X_lstore_n (pc := 392) (L' := [(1, .long _), (3, .long _), (5, .long _), (7, .long _), (9, .long _), (11, .long _), (13, .long _), (15, .long _), (20, .long _), (18, .long _), (17, .int _), (0, .ref _)]) dX4_mix_392 rfl (Nat.le_of_ble_eq_true rfl) rfl ?_
      refine X_iinc (pc := 393) (L' := [(17, .int (_ + 1)), (1, .long _), (3, .long _), (5, .long _), (7, .long _), (9, .long _), (11, .long _), (13, .long _), (15, .long _), (20, .long _), (18, .long _), (0, .ref _)]) 10 dX4_mix_393 rfl rfl (Nat.le_of_ble_eq_true rfl) rfl ?_
      refine X_goto (pc := 396) 257 dX4_mix_396 (by decide) ?_
      rw [ci, show nI i + 1 = nI (i + 1) from nI_add i 1]
      refine XX.pick (L' := [(17, .int _), (15, .long _), (13, .long _), (11, .long _), (9, .long _), (7, .long _), (5, .long _), (3, .long _), (1, .long _), (0, .ref _)]) [0, 8, 7, 6, 5, 4, 3, 2, 1, 11] rfl ?_
      exact ih
  exact loop 80 0 (by omega)
