set_option maxRecDepth 100000
/-! VeilMint's curve: a point from its bytes, a point's bytes -/
section XBy
variable {kd : Nat → KD} {A : Nat → Nat} {X : AH} {R : Nat → Nat} {S : Nat → List Int32} {O : Nat → AC} {F : Nat → Int32} {h : AH}
theorem neg_par {x : Nat} (h0 : x ≠ 0) (hx : x < pP) : (pP - x) % 2 ≠ x % 2 := by
  have := pP_odd
  omega
theorem fp_negv {y : Fp} (h : y ≠ 0) : (-y).val = pP - y.val := by
  have hl := fp_lt y
  have h0 : y.val ≠ 0 := fun z => h (fp_ext z)
  have e : -y = fp (pP - y.val) := by rw [fp_neg (Nat.le_of_lt hl), fp_self]
  rw [e, fp_val_lt (by omega)]
/-- what reading a point gives -/
def RdQ (kd : Nat → KD) (A : Nat → Nat) (X : AH) (R : Nat → Nat) (S : Nat → List Int32) (O : Nat → AC) (F : Nat → Int32) (P : Nat) (D : PP) (r : Int32) (h' : AH) : Prop :=
  ∃ R', (∀ j, ecS P j = false → R' j = R j) ∧ XW kd A X R' S O F h' ∧ ((r = 0 ∧ D = none) ∨ (r = 1 ∧ D ≠ none ∧ PtV R' P D))
set_option maxHeartbeats 8000000 in
theorem xreadP_ok (g : GX) (w : XW kd A X R S O F h) {P kb nb at' : Nat} (hP : PtK kd A O P) (hP60 : 64 ≤ P) (xb : XB R) (hkb : kd kb = (6, 2, nb)) (hnb : nb < 2 ^ 31) (hl : at' + 49 ≤ (S kb).length) :
    MT g MX5_read ({ frames := 5, cells := 1, slots := 64, locals := 120 } : Room) [.ref (A 11), .ref (A kb), .int (nI at'), .ref (A P)] h (RI (RdQ kd A X R S O F P (decE fun j => (S kb).getD (at' + j) 0))) := by
  refine MT.of (by decide) (Nat.le_of_ble_eq_true rfl) ?_
  have hlb : (S kb).length ≤ nb := (w.s kb hkb).choose_spec.2.2
  have bt : vp_in (nI at') nb := vp_in_nI (by omega) (by omega)
  have ct : (nI at').toNatClampNeg = at' := nI_clamp (by omega)
  generalize hl0 : (fun j => (S kb).getD (at' + j) 0) = l
  have tag : ∀ {R' : Nat → Nat} {h' : AH}, XW kd A X R' S O F h' → ∃ fb, h' (A kb) = some (Ai false 2 nb fb) ∧ fb (nI at').toNatClampNeg = l 0 := by
    intro R' h' w'
    obtain ⟨fb, c1, c2, -⟩ := w'.s kb hkb
    refine ⟨fb, c1, ?_⟩
    rw [ct, c2 at' (by omega), ← hl0]
    rfl
  have hnum : num (S kb) (at' + 1) 48 = bsm l 49 48 := by
    rw [← hl0]
    refine bsm_cg fun j hj => ?_
    show (S kb).getD (at' + 1 + 48 - 1 - j) 0 = (S kb).getD (at' + (49 - 1 - j)) 0
    congr 1
    omega
  generalize hQ : RI (RdQ kd A X R S O F P (decE l)) = Q
  have no : ∀ (k n : Nat) (R1 : Nat → Nat) (h1 : AH), k ≤ 1 → n ≤ 64 → XW kd A X R1 S O F h1 → (∀ j, ecS P j = false → R1 j = R j) → decE l = none → XX g MX5_read ({ frames := 5, cells := 1, slots := 64, locals := 120 } : Room) Q k n 34 [(0, .ref (A 11)), (1, .ref (A kb)), (2, .int (nI at')), (3, .ref (A P))] [] h1 := by
    intro k n R1 h1 hk hn w1 fr hd
    refine X_iconst (pc := 34) (x := 0) dX5_read_34 (by decide) ?_
    subst hQ
    refine X_zreturn (pc := 35) dX5_read_35 rfl (Or.inl rfl) hk hn ?_
    exact ⟨0, rfl, R1, fr, w1, Or.inl ⟨rfl, hd⟩⟩
  have numb : l 0 = 2 ∨ l 0 = 3 → XX g MX5_read ({ frames := 5, cells := 1, slots := 64, locals := 120 } : Room) Q 0 0 14 [(0, .ref (A 11)), (1, .ref (A kb)), (2, .int (nI at')), (3, .ref (A P))] [] h := by
    intro h23
    have hdx : decE l = if bsm l 49 48 < pP then decY l (fp (bsm l 49 48)) (rt (gx (fp (bsm l 49 48)))) else none := by unfold decE; rw [if_pos h23]
    refine X_aload_n (pc := 14) 0 dX5_read_14 rfl rfl ?_
    refine X_getfield (pc := 15) dX5_read_15 fg_X5_22_3 (XW.cv w) (by first | rfl | assumption) ?_
    refine X_aload_n (pc := 18) 1 dX5_read_18 rfl rfl ?_
    refine X_iload_n (pc := 19) 2 dX5_read_19 rfl rfl ?_
    refine X_iconst (pc := 20) (x := 1) dX5_read_20 (by decide) ?_
    refine X_iadd (pc := 21) dX5_read_21 ?_
    refine X_bipush (pc := 22) (x := 48) dX5_read_22 (by decide) ?_
    refine X_aload_n (pc := 24) 0 dX5_read_24 rfl rfl ?_
    refine X_getfield (pc := 25) dX5_read_25 fg_X5_44_3 (XW.cv w) (by first | rfl | assumption) ?_
    rw [show nI at' + 1 = nI (at' + 1) from nI_add at' 1]
    refine X_ivi (pc := 28) _ dX5_read_28 cv_X5_171_4 (MoK.ob (XW.mp w) w) rfl (xreadW g w w.mp 16 (w.k 16 (by decide)) (many := 48) hkb hnb (by omega) (by decide)) nX6_read (Nat.le_of_ble_eq_true rfl) (Nat.le_of_ble_eq_true rfl) (Nat.le_of_ble_eq_true rfl) (Nat.le_of_ble_eq_true rfl) (fun r1 h1 q1 => ?_)
    obtain ⟨er, q1⟩ := q1
    rw [hnum] at er q1
    generalize hxv : bsm l 49 48 = xv at *
    obtain ⟨R1, e1, o1, w1⟩ := XW.ab q1
    have fr1 : ∀ j, ecS P j = false → R1 j = R j := fun j hj => by
      have := ecS_ne hj
      exact o1 j (by omega)
    by_cases hlt : xv < pP
    · rw [if_pos hlt] at hdx er
      subst er
      refine X_if_ne (pc := 31) 36 dX5_read_31 (by decide) (fun _ => ?_) (fun c => absurd c (by decide))
      have op1 := OpX.n2 w1 16 (w1.k 16 (by decide))
      rw [e1] at op1
      refine X_aload_n (pc := 36) 0 dX5_read_36 rfl rfl ?_
      refine X_getfield (pc := 37) dX5_read_37 fg_X5_22_3 (XW.cv w1) (by first | rfl | assumption) ?_
      refine X_aload_n (pc := 40) 0 dX5_read_40 rfl rfl ?_
      refine X_getfield (pc := 41) dX5_read_41 fg_X5_44_3 (XW.cv w1) (by first | rfl | assumption) ?_
      refine X_aload_n (pc := 44) 3 dX5_read_44 rfl rfl ?_
      refine X_getfield (pc := 45) dX5_read_45 fg_X5_103_5 (hP.c w1) (by first | rfl | assumption) ?_
      refine X_ivv (pc := 48) _ dX5_read_48 cv_X5_97_4 (MoK.ob (XW.mp w1) w1) rfl (xinW g w1 w1.mp (P + 1) (St.p hP.2.2.1) op1) nX6_in (Nat.le_of_ble_eq_true rfl) (Nat.le_of_ble_eq_true rfl) (Nat.le_of_ble_eq_true rfl) (Nat.le_of_ble_eq_true rfl) (fun h2 q2 => ?_)
      obtain ⟨R2, e2, o2, w2⟩ := XW.ab q2
      have x2 : vm (R2 (P + 1)) = fp xv := by rw [e2]; exact vm_in xv
      have fr2 : ∀ j, ecS P j = false → R2 j = R j := fun j hj => by
        have := ecS_ne hj
        rw [o2 j (by omega), fr1 j hj]
      have xb2 : XB R2 := xb.fr fun j hj => fr2 j (ecS_f (by omega) (by omega) (by omega) (by omega))
      refine X_aload_n (pc := 51) 0 dX5_read_51 rfl rfl ?_
      refine X_aload_n (pc := 52) 3 dX5_read_52 rfl rfl ?_
      refine X_getfield (pc := 53) dX5_read_53 fg_X5_103_5 (hP.c w2) (by first | rfl | assumption) ?_
      refine X_aload_n (pc := 56) 0 dX5_read_56 rfl rfl ?_
      refine X_getfield (pc := 57) dX5_read_57 fg_X5_47_3 (XW.cv w2) (by first | rfl | assumption) ?_
      refine X_ivv (pc := 60) _ dX5_read_60 cv_X5_175_3 (XW.cv w2) rfl (square_ok g w2 (P + 1) 17 hP.2.2.1 (w2.k 17 (by decide)) (by omega) xb2) nX5_square (Nat.le_of_ble_eq_true rfl) (Nat.le_of_ble_eq_true rfl) (Nat.le_of_ble_eq_true rfl) (Nat.le_of_ble_eq_true rfl) (fun h3 q3 => ?_)
      obtain ⟨R3, o3, v3, w3⟩ := q3
      rw [x2] at v3
      have fr3 : ∀ j, ecS P j = false → R3 j = R j := fun j hj => by
        have := ecS_ne hj
        rw [o3 j (by omega) (by omega), fr2 j hj]
      have xb3 : XB R3 := xb.fr fun j hj => fr3 j (ecS_f (by omega) (by omega) (by omega) (by omega))
      refine X_aload_n (pc := 63) 0 dX5_read_63 rfl rfl ?_
      refine X_getfield (pc := 64) dX5_read_64 fg_X5_22_3 (XW.cv w3) (by first | rfl | assumption) ?_
      refine X_aload_n (pc := 67) 0 dX5_read_67 rfl rfl ?_
      refine X_getfield (pc := 68) dX5_read_68 fg_X5_47_3 (XW.cv w3) (by first | rfl | assumption) ?_
      refine X_aload_n (pc := 71) 0 dX5_read_71 rfl rfl ?_
      refine X_getfield (pc := 72) dX5_read_72 fg_X5_35_3 (XW.cv w3) (by first | rfl | assumption) ?_
      refine X_aload_n (pc := 75) 3 dX5_read_75 rfl rfl ?_
      refine X_getfield (pc := 76) dX5_read_76 fg_X5_108_5 (hP.c w3) (by first | rfl | assumption) ?_
      refine X_ivv (pc := 79) _ dX5_read_79 cv_X5_178_4 (MoK.ob (XW.mp w3) w3) rfl (xroot g w3 17 (P + 2) (w3.k 17 (by decide)) hP.2.2.2.1 (by omega) xb3) nX6_pow (Nat.le_of_ble_eq_true rfl) (Nat.le_of_ble_eq_true rfl) (Nat.le_of_ble_eq_true rfl) (Nat.le_of_ble_eq_true rfl) (fun h4 q4 => ?_)
      obtain ⟨R4, o4, v4, w4⟩ := q4
      rw [v3] at v4
      have fr4 : ∀ j, ecS P j = false → R4 j = R j := fun j hj => by
        have := ecS_ne hj
        rw [o4 j (by omega), fr3 j hj]
      have x4 : vm (R4 (P + 1)) = fp xv := by rw [o4 _ (by omega), o3 _ (by omega) (by omega)]; exact x2
      have g4 : vm (R4 17) = gx (fp xv) := by rw [o4 17 (by omega)]; exact v3
      generalize hyv : rt (gx (fp xv)) = yv at *
      refine X_aload_n (pc := 82) 0 dX5_read_82 rfl rfl ?_
      refine X_getfield (pc := 83) dX5_read_83 fg_X5_22_3 (XW.cv w4) (by first | rfl | assumption) ?_
      refine X_aload_n (pc := 86) 3 dX5_read_86 rfl rfl ?_
      refine X_getfield (pc := 87) dX5_read_87 fg_X5_108_5 (hP.c w4) (by first | rfl | assumption) ?_
      refine X_aload_n (pc := 90) 3 dX5_read_90 rfl rfl ?_
      refine X_getfield (pc := 91) dX5_read_91 fg_X5_108_5 (hP.c w4) (by first | rfl | assumption) ?_
      refine X_aload_n (pc := 94) 0 dX5_read_94 rfl rfl ?_
      refine X_getfield (pc := 95) dX5_read_95 fg_X5_50_3 (XW.cv w4) (by first | rfl | assumption) ?_
      refine X_ivv (pc := 98) _ dX5_read_98 cv_X5_140_4 (MoK.ob (XW.mp w4) w4) rfl (xmPr g w4 18 (P + 2) (P + 2) (St.p (w4.k 18 (by decide))) (Or.inl hP.2.2.2.1) (Or.inl hP.2.2.2.1)) nX6_mul (Nat.le_of_ble_eq_true rfl) (Nat.le_of_ble_eq_true rfl) (Nat.le_of_ble_eq_true rfl) (Nat.le_of_ble_eq_true rfl) (fun h5 q5 => ?_)
      have v5' := vx_M (k := 18) (⟨v4, w4.lt hP.2.2.2.1⟩ : vx R4 (P + 2) _) (⟨v4, w4.lt hP.2.2.2.1⟩ : vx R4 (P + 2) _)
      obtain ⟨R5, e5, o5, w5⟩ := XW.ab q5
      have v5 : vm (R5 18) = yv * yv := by rw [e5]; exact (congrArg vm (up_same _ _ _).symm).trans v5'.1
      have fr5 : ∀ j, ecS P j = false → R5 j = R j := fun j hj => by
        have := ecS_ne hj
        rw [o5 j (by omega), fr4 j hj]
      have g5 : vm (R5 17) = gx (fp xv) := by rw [o5 17 (by decide)]; exact g4
      have x5 : vm (R5 (P + 1)) = fp xv := by rw [o5 _ (by omega)]; exact x4
      have y5 : vm (R5 (P + 2)) = yv := by rw [o5 _ (by omega)]; exact v4
      refine X_aload_n (pc := 101) 0 dX5_read_101 rfl rfl ?_
      refine X_getfield (pc := 102) dX5_read_102 fg_X5_47_3 (XW.cv w5) (by first | rfl | assumption) ?_
      refine X_aload_n (pc := 105) 0 dX5_read_105 rfl rfl ?_
      refine X_getfield (pc := 106) dX5_read_106 fg_X5_50_3 (XW.cv w5) (by first | rfl | assumption) ?_
      refine X_isi (pc := 109) _ dX5_read_109 cs_X5_181 rfl (xcmpW g (OpX.n w5 17 (w5.k 17 (by decide))) (OpX.n w5 18 (w5.k 18 (by decide))) (by decide)) nX6_compare (Nat.le_of_ble_eq_true rfl) (Nat.le_of_ble_eq_true rfl) (Nat.le_of_ble_eq_true rfl) (Nat.le_of_ble_eq_true rfl) (fun r6 h6 q6 => ?_)
      obtain ⟨er6, rfl⟩ := q6
      have hiff : r6 = 0 ↔ yv * yv = gx (fp xv) := by
        rw [er6, cmpN_eq0, ← v5, ← g5]
        exact ⟨fun e => by rw [e], fun e => (vm_inj (w5.lt (w5.k 18 (by decide))) (w5.lt (w5.k 17 (by decide))) e).symm⟩
      by_cases hq : yv * yv = gx (fp xv)
      · refine X_if_eq (pc := 112) 117 dX5_read_112 (by decide) (fun _ => ?_) (fun e => absurd (hiff.mpr hq) e)
        have hdy : decE l = if yv = 0 then (if l 0 = 2 then some (fp xv, yv) else none) else if (yv.val % 2 = 0 ↔ l 0 = 2) then some (fp xv, yv) else some (fp xv, -yv) := by rw [hdx]; unfold decY; rw [if_pos hq]
        refine X_aload_n (pc := 117) 0 dX5_read_117 rfl rfl ?_
        refine X_getfield (pc := 118) dX5_read_118 fg_X5_22_3 (XW.cv w5) (by first | rfl | assumption) ?_
        refine X_aload_n (pc := 121) 3 dX5_read_121 rfl rfl ?_
        refine X_getfield (pc := 122) dX5_read_122 fg_X5_108_5 (hP.c w5) (by first | rfl | assumption) ?_
        refine X_aload_n (pc := 125) 0 dX5_read_125 rfl rfl ?_
        refine X_getfield (pc := 126) dX5_read_126 fg_X5_53_3 (XW.cv w5) (by first | rfl | assumption) ?_
        refine X_ivv (pc := 129) _ dX5_read_129 cv_X5_160_4 (MoK.ob (XW.mp w5) w5) rfl (xfromW g w5 w5.mp 19 (St.p (w5.k 19 (by decide))) (OpX.n w5 (P + 2) hP.2.2.2.1)) nX6_from (Nat.le_of_ble_eq_true rfl) (Nat.le_of_ble_eq_true rfl) (Nat.le_of_ble_eq_true rfl) (Nat.le_of_ble_eq_true rfl) (fun h7 q7 => ?_)
        obtain ⟨R7, e7, o7, w7⟩ := XW.ab q7
        have y7 : R7 19 = yv.val := by rw [e7, ← y5, ← vm_from, fp_val_lt (mgm_lt pP_odd _ _)]
        have fr7 : ∀ j, ecS P j = false → R7 j = R j := fun j hj => by
          have := ecS_ne hj
          rw [o7 j (by omega), fr5 j hj]
        have x7 : vm (R7 (P + 1)) = fp xv := by rw [o7 _ (by omega)]; exact x5
        have yy7 : vm (R7 (P + 2)) = yv := by rw [o7 _ (by omega)]; exact y5
        have hl1 : l 0 &&& 1 = nI (if l 0 = 2 then 0 else 1) := by rcases h23 with e | e <;> rw [e] <;> decide
        -- the end
        have fin : ∀ (R8 : Nat → Nat) (h8 : AH) (z : Fp), XW kd A X R8 S O F h8 → (∀ j, ecS P j = false → R8 j = R j) → vm (R8 (P + 1)) = fp xv → vm (R8 (P + 2)) = z → decE l = (if z.val % 2 = (if l 0 = 2 then 0 else 1) then some (fp xv, z) else none) →
            XX g MX5_read ({ frames := 5, cells := 1, slots := 64, locals := 120 } : Room) Q 1 64 156 [(0, .ref (A 11)), (1, .ref (A kb)), (2, .int (nI at')), (3, .ref (A P))] [] h8 := by
          intro R8 h8 z w8 fr8 x8 y8 hd
          have o1p := (XW.mp w8).o1 w8
          rw [← oneP_ok] at o1p
          refine X_aload_n (pc := 156) 0 dX5_read_156 rfl rfl ?_
          refine X_getfield (pc := 157) dX5_read_157 fg_X5_22_3 (XW.cv w8) (by first | rfl | assumption) ?_
          refine X_getfield (pc := 160) dX5_read_160 fg_X5_111_4 (MoK.ob (XW.mp w8) w8) (by first | rfl | assumption) ?_
          refine X_aload_n (pc := 163) 3 dX5_read_163 rfl rfl ?_
          refine X_getfield (pc := 164) dX5_read_164 fg_X5_114_5 (hP.c w8) (by first | rfl | assumption) ?_
          refine X_isv (pc := 167) _ dX5_read_167 cs_X5_117 rfl (xcopyW g w8 (P + 3) (St.p hP.2.2.2.2) o1p oneP_lt (by decide)) nX6_copy (Nat.le_of_ble_eq_true rfl) (Nat.le_of_ble_eq_true rfl) (Nat.le_of_ble_eq_true rfl) (Nat.le_of_ble_eq_true rfl) (fun h9 q9 => ?_)
          obtain ⟨R9, e9, o9, w9⟩ := XW.ab q9
          refine X_aload_n (pc := 170) 0 dX5_read_170 rfl rfl ?_
          refine X_getfield (pc := 171) dX5_read_171 fg_X5_22_3 (XW.cv w9) (by first | rfl | assumption) ?_
          refine X_aload_n (pc := 174) 3 dX5_read_174 rfl rfl ?_
          refine X_getfield (pc := 175) dX5_read_175 fg_X5_108_5 (hP.c w9) (by first | rfl | assumption) ?_
          refine X_aload_n (pc := 178) 0 dX5_read_178 rfl rfl ?_
          refine X_getfield (pc := 179) dX5_read_179 fg_X5_53_3 (XW.cv w9) (by first | rfl | assumption) ?_
          refine X_ivv (pc := 182) _ dX5_read_182 cv_X5_160_4 (MoK.ob (XW.mp w9) w9) rfl (xfromW g w9 w9.mp 19 (St.p (w9.k 19 (by decide))) (OpX.n w9 (P + 2) hP.2.2.2.1)) nX6_from (Nat.le_of_ble_eq_true rfl) (Nat.le_of_ble_eq_true rfl) (Nat.le_of_ble_eq_true rfl) (Nat.le_of_ble_eq_true rfl) (fun h10 q10 => ?_)
          obtain ⟨R10, e10, o10, w10⟩ := XW.ab q10
          have y10 : R10 19 = z.val := by rw [e10, ← y8, ← vm_from, fp_val_lt (mgm_lt pP_odd _ _), o9 _ (by omega)]
          have fr10 : ∀ j, ecS P j = false → R10 j = R j := fun j hj => by
            have := ecS_ne hj
            rw [o10 j (by omega), o9 j (by omega), fr8 j hj]
          have p10 : PtV R10 P (some (fp xv, z)) := by
            unfold PtV
            rw [o10 _ (by omega), o10 _ (by omega), o10 _ (by omega), e9, o9 _ (by omega), o9 _ (by omega), x8, y8, oneP_v]
            exact Jc_one
          obtain ⟨f19, c19, v19, -⟩ := w10.n 19 (w10.k 19 (by decide))
          obtain ⟨fb, t1, t2⟩ := tag w10
          refine X_aload_n (pc := 185) 0 dX5_read_185 rfl rfl ?_
          refine X_getfield (pc := 186) dX5_read_186 fg_X5_53_3 (XW.cv w10) (by first | rfl | assumption) ?_
          refine X_iconst (pc := 189) (x := 0) dX5_read_189 (by decide) ?_
          refine X_iaload (pc := 190) dX5_read_190 c19 (vp_in_nI (n := 0) (by decide) (by decide)) ?_
          refine X_iconst (pc := 191) (x := 1) dX5_read_191 (by decide) ?_
          refine X_iand (pc := 192) dX5_read_192 ?_
          refine X_aload_n (pc := 193) 1 dX5_read_193 rfl rfl ?_
          refine X_iload_n (pc := 194) 2 dX5_read_194 rfl rfl ?_
          refine X_baload (pc := 195) dX5_read_195 t1 bt ?_
          refine X_iconst (pc := 196) (x := 1) dX5_read_196 (by decide) ?_
          refine X_iand (pc := 197) dX5_read_197 ?_
          rw [t2, hl1, show f19 ((0 : Int32).toNatClampNeg) &&& 1 = nI (z.val % 2) by rw [show (0 : Int32).toNatClampNeg = 0 from rfl, V_odd (n := 12) (by decide), v19, y10]]
          by_cases hp : z.val % 2 = (if l 0 = 2 then 0 else 1)
          · rw [hp]
            rw [if_pos hp] at hd
            refine X_icmp_ne (pc := 198) 205 dX5_read_198 (by decide) (fun c => absurd rfl c) (fun _ => ?_)
            refine X_iconst (pc := 201) (x := 1) dX5_read_201 (by decide) ?_
            refine X_goto (pc := 202) 206 dX5_read_202 (by decide) ?_
            subst hQ
            refine X_zreturn (pc := 206) dX5_read_206 rfl (Or.inr rfl) (by decide) (by decide) ?_
            refine ⟨1, rfl, R10, fr10, w10, Or.inr ⟨rfl, ?_, ?_⟩⟩
            · rw [hd]; exact fun e => by cases e
            · rw [hd]; exact p10
          · rw [if_neg hp] at hd
            refine X_icmp_ne (pc := 198) 205 dX5_read_198 (by decide) (fun _ => ?_) (fun c => ?_)
            · skip
              refine X_iconst (pc := 205) (x := 0) dX5_read_205 (by decide) ?_
              subst hQ
              refine X_zreturn (pc := 206) dX5_read_206 rfl (Or.inl rfl) (by decide) (by decide) ?_
              exact ⟨0, rfl, R10, fr10, w10, Or.inl ⟨rfl, hd⟩⟩
            · exact absurd (nI_inj' (by omega) (by split <;> decide) c) hp
        obtain ⟨f19, c19, v19, -⟩ := w7.n 19 (w7.k 19 (by decide))
        obtain ⟨fb, t1, t2⟩ := tag w7
        refine X_aload_n (pc := 132) 0 dX5_read_132 rfl rfl ?_
        refine X_getfield (pc := 133) dX5_read_133 fg_X5_53_3 (XW.cv w7) (by first | rfl | assumption) ?_
        refine X_iconst (pc := 136) (x := 0) dX5_read_136 (by decide) ?_
        refine X_iaload (pc := 137) dX5_read_137 c19 (vp_in_nI (n := 0) (by decide) (by decide)) ?_
        refine X_iconst (pc := 138) (x := 1) dX5_read_138 (by decide) ?_
        refine X_iand (pc := 139) dX5_read_139 ?_
        refine X_aload_n (pc := 140) 1 dX5_read_140 rfl rfl ?_
        refine X_iload_n (pc := 141) 2 dX5_read_141 rfl rfl ?_
        refine X_baload (pc := 142) dX5_read_142 t1 bt ?_
        refine X_iconst (pc := 143) (x := 1) dX5_read_143 (by decide) ?_
        refine X_iand (pc := 144) dX5_read_144 ?_
        rw [t2, hl1, show f19 ((0 : Int32).toNatClampNeg) &&& 1 = nI (yv.val % 2) by rw [show (0 : Int32).toNatClampNeg = 0 from rfl, V_odd (n := 12) (by decide), v19, y7]]
        have e2 : yv.val % 2 = 0 ∨ yv.val % 2 = 1 := by omega
        have hy0 : yv = 0 → yv.val = 0 := fun e => by rw [e]; rfl
        by_cases hp : yv.val % 2 = (if l 0 = 2 then 0 else 1)
        · rw [hp]
          refine X_icmp_eq (pc := 145) 156 dX5_read_145 (by decide) (fun _ => ?_) (fun c => absurd rfl c)
          refine fin R7 h7 yv w7 fr7 x7 yy7 ?_
          rw [if_pos hp, hdy]
          by_cases c0 : yv = 0
          · rw [if_pos c0]
            by_cases c2 : l 0 = 2
            · rw [if_pos c2]
            · rw [if_neg c2, hy0 c0] at hp
              exact absurd hp (by decide)
          · rw [if_neg c0, if_pos]
            by_cases c2 : l 0 = 2
            · rw [if_pos c2] at hp
              exact ⟨fun _ => c2, fun _ => hp⟩
            · rw [if_neg c2] at hp
              exact ⟨fun z => by omega, fun z => absurd z c2⟩
        · refine X_icmp_eq (pc := 145) 156 dX5_read_145 (by decide) (fun c => ?_) (fun _ => ?_)
          · exact absurd (nI_inj' (by omega) (by split <;> decide) c) hp
          · skip
            refine X_aload_n (pc := 148) 0 dX5_read_148 rfl rfl ?_
            refine X_aload_n (pc := 149) 3 dX5_read_149 rfl rfl ?_
            refine X_getfield (pc := 150) dX5_read_150 fg_X5_108_5 (hP.c w7) (by first | rfl | assumption) ?_
            refine X_ivv (pc := 153) _ dX5_read_153 cv_X5_185_3 (XW.cv w7) rfl (negate_ok g w7 (P + 2) hP.2.2.2.1 (by omega)) nX5_negate (Nat.le_of_ble_eq_true rfl) (Nat.le_of_ble_eq_true rfl) (Nat.le_of_ble_eq_true rfl) (Nat.le_of_ble_eq_true rfl) (fun h8 q8 => ?_)
            obtain ⟨R8, o8, v8, w8⟩ := q8
            refine fin R8 h8 (-yv) w8 (fun j hj => ?_) ?_ (by rw [v8, yy7]) ?_
            · have := ecS_ne hj
              rw [o8 j (by omega) (by omega), fr7 j hj]
            · rw [o8 _ (by omega) (by omega)]
              exact x7
            · rw [hdy]
              by_cases c0 : yv = 0
              · have hn : (-yv).val = 0 := by rw [c0, neg_zero']; rfl
                rw [if_pos c0, hn]
                by_cases c2 : l 0 = 2
                · rw [if_pos c2, hy0 c0] at hp
                  exact absurd rfl hp
                · rw [if_neg c2, if_neg c2, if_neg (by decide)]
              · have hv := fp_negv c0
                have h0 : yv.val ≠ 0 := fun z => c0 (fp_ext z)
                have hpar := neg_par h0 (fp_lt yv)
                rw [if_neg c0, if_neg, if_pos]
                · rw [hv]
                  by_cases c2 : l 0 = 2
                  · rw [if_pos c2] at hp ⊢
                    omega
                  · rw [if_neg c2] at hp ⊢
                    omega
                · intro z
                  apply hp
                  by_cases c2 : l 0 = 2
                  · rw [if_pos c2]
                    exact z.mpr c2
                  · rw [if_neg c2]
                    rcases e2 with e | e
                    · exact absurd (z.mp e) c2
                    · exact e
      · refine X_if_eq (pc := 112) 117 dX5_read_112 (by decide) (fun e => absurd (hiff.mp e) hq) (fun _ => ?_)
        have hdn : decE l = none := by rw [hdx]; unfold decY; rw [if_neg hq]
        refine X_iconst (pc := 115) (x := 0) dX5_read_115 (by decide) ?_
        subst hQ
        refine X_zreturn (pc := 116) dX5_read_116 rfl (Or.inl rfl) (by decide) (by decide) ?_
        exact ⟨0, rfl, R5, fr5, w5, Or.inl ⟨rfl, hdn⟩⟩
    · rw [if_neg hlt] at hdx er
      subst er
      refine X_if_ne (pc := 31) 36 dX5_read_31 (by decide) (fun c => absurd rfl c) (fun _ => ?_)
      exact no _ _ R1 h1 (by decide) (by decide) w1 fr1 hdx
  obtain ⟨fb, t1, t2⟩ := tag w
  refine X_aload_n (pc := 0) 1 dX5_read_0 rfl rfl ?_
  refine X_iload_n (pc := 1) 2 dX5_read_1 rfl rfl ?_
  refine X_baload (pc := 2) dX5_read_2 t1 bt ?_
  refine X_iconst (pc := 3) (x := 2) dX5_read_3 (by decide) ?_
  rw [t2]
  by_cases hl2 : l 0 = 2
  · refine X_icmp_eq (pc := 4) 14 dX5_read_4 (by decide) (fun _ => numb (Or.inl hl2)) (fun c => absurd hl2 c)
  · refine X_icmp_eq (pc := 4) 14 dX5_read_4 (by decide) (fun c => absurd c hl2) (fun _ => ?_)
    refine X_aload_n (pc := 7) 1 dX5_read_7 rfl rfl ?_
    refine X_iload_n (pc := 8) 2 dX5_read_8 rfl rfl ?_
    refine X_baload (pc := 9) dX5_read_9 t1 bt ?_
    refine X_iconst (pc := 10) (x := 3) dX5_read_10 (by decide) ?_
    rw [t2]
    by_cases hl3 : l 0 = 3
    · refine X_icmp_ne (pc := 11) 34 dX5_read_11 (by decide) (fun c => absurd hl3 c) (fun _ => numb (Or.inr hl3))
    · refine X_icmp_ne (pc := 11) 34 dX5_read_11 (by decide) (fun _ => ?_) (fun c => absurd c hl3)
      refine no _ _ R h (by decide) (by decide) w (fun _ _ => rfl) ?_
      unfold decE
      rw [if_neg (by intro z; rcases z with z | z; exact hl2 z; exact hl3 z)]
end XBy
