set_option maxRecDepth 100000
/-! VeilMint's curve: a point's bytes -/
theorem encB_cons (x y : Nat) : encB x y = [tb (2 + y % 2)] ++ byN x 48 := by
  unfold encB byN osB
  rw [show (49 : Nat) = 48 + 1 from rfl, List.range_succ_eq_map, List.map_cons, List.map_map]
  show tb (2 + y % 2) :: _ = tb (2 + y % 2) :: _
  congr 1
theorem jw1 {F : Type} [Lean.Grind.CommRing F] {x z i : F} (h : z * i = 1) : x * (z * z) * (i * i) = x := by
  have e : x * (z * z) * (i * i) = x * ((z * i) * (z * i)) := by grind
  rw [e, h]
  grind
theorem jw2 {F : Type} [Lean.Grind.CommRing F] {y z i : F} (h : z * i = 1) : y * (z * z * z) * (i * i * i) = y := by
  have e : y * (z * z * z) * (i * i * i) = y * ((z * i) * (z * i) * (z * i)) := by grind
  rw [e, h]
  grind
section XWr
variable {kd : Nat → KD} {A : Nat → Nat} {X : AH} {R : Nat → Nat} {S : Nat → List Int32} {O : Nat → AC} {F : Nat → Int32} {h : AH}
def cvS (j : Nat) : Bool := decide (16 ≤ j) && decide (j ≤ 23)
theorem cvS_ne {j : Nat} (h : cvS j = false) : ¬ (16 ≤ j ∧ j ≤ 23) := by
  unfold cvS at h
  simp only [Bool.and_eq_false_iff, decide_eq_false_iff_not] at h
  omega
theorem cvS_f {j : Nat} (h : ¬ (16 ≤ j ∧ j ≤ 23)) : cvS j = false := by
  unfold cvS
  simp only [Bool.and_eq_false_iff, decide_eq_false_iff_not]
  omega
/-- what writing a point gives -/
def WrQ (kd : Nat → KD) (A : Nat → Nat) (X : AH) (R : Nat → Nat) (S : Nat → List Int32) (O : Nat → AC) (F : Nat → Int32) (kt : Nat) (D : PP) (r : Int32) (h' : AH) : Prop :=
  ∃ R', (∀ j, cvS j = false → R' j = R j) ∧ ((r = 0 ∧ D = none ∧ XW kd A X R' S O F h') ∨ (r = 1 ∧ D ≠ none ∧ XW kd A X R' (up S kt (S kt ++ en D)) O F h'))
theorem vx.fx {R : Nat → Nat} {k : Nat} {e : Fp} (h : vx R k e) : vm (R k) = e := h.1
theorem two_par (y : Nat) : ((2 : Int32) + nI (y % 2)).toInt8.toInt32 = tb (2 + y % 2) := by
  rw [show (2 : Int32) + nI (y % 2) = nI (2 + y % 2) from nI_add 2 _, toInt8_low, u32_nI, Nat.mod_eq_of_lt (by omega)]
set_option maxHeartbeats 8000000 in
theorem xwriteP_ok (g : GX) (w : XW kd A X R S O F h) {P kt nt : Nat} (hP : PtK kd A O P) (hP60 : 60 ≤ P) (hkt : kd kt = (6, 2, nt)) (hnt : nt < 2 ^ 31) (hl : (S kt).length + 49 ≤ nt) {D : PP} (hv : PtV R P D) :
    MT g MX5_write ({ frames := 5, cells := 0, slots := 0, locals := 117 } : Room) [.ref (A 11), .ref (A P), .ref (A kt), .int (nI (S kt).length)] h (RI (WrQ kd A X R S O F kt D)) := by
  refine MT.of (by decide) (Nat.le_of_ble_eq_true rfl) ?_
  obtain ⟨l1, l2, l3⟩ := hP.lt w
  refine X_aload_n (pc := 0) 1 dX5_write_0 rfl rfl ?_
  refine X_ivi (pc := 1) _ dX5_write_1 cv_X5_136_5 (hP.c w) rfl (isNone_ok g w hP) nX7_isNone (Nat.le_of_ble_eq_true rfl) (Nat.le_of_ble_eq_true rfl) (Nat.le_of_ble_eq_true rfl) (Nat.le_of_ble_eq_true rfl) (fun r h1 q => ?_)
  obtain ⟨er, rfl⟩ := q
  by_cases hz : R (P + 3) = 0
  · rw [if_pos hz] at er
    subst er
    refine X_if_eq (pc := 4) 9 dX5_write_4 (by decide) (fun c_4 => ?_) (fun c_4 => ?_)
    · exact absurd c_4 (by decide)
    · refine X_iconst (pc := 7) (x := 0) dX5_write_7 (by decide) ?_
      refine X_zreturn (pc := 8) dX5_write_8 rfl (by first | exact Or.inl rfl | exact Or.inr rfl | assumption | exact zo_if) (Nat.le_of_ble_eq_true rfl) (Nat.le_of_ble_eq_true rfl) ?_
      exact ⟨0, rfl, R, fun _ _ => rfl, Or.inl ⟨rfl, Jc.none0 hv ((vm_0 l3).mpr hz), w⟩⟩
  · rw [if_neg hz] at er
    subst er
    have hz0 : vm (R (P + 3)) ≠ 0 := fun z => hz ((vm_0 l3).mp z)
    obtain ⟨gc, vi⟩ := inv_vm l3 hz0
    match D, hv with
    | none, hv => exact absurd hv hz0
    | some (x, y), hv =>
    obtain ⟨-, hx, hy⟩ := hv
    refine X_if_eq (pc := 4) 9 dX5_write_4 (by decide) (fun c_4 => ?_) (fun c_4 => ?_)
    · skip
      refine X_aload_n (pc := 9) 0 dX5_write_9 rfl rfl ?_
      refine X_getfield (pc := 10) dX5_write_10 fg_X5_22_3 (XW.cv w) (by first | rfl | assumption) ?_
      refine X_aload_n (pc := 13) 1 dX5_write_13 rfl rfl ?_
      refine X_getfield (pc := 14) dX5_write_14 fg_X5_114_5 (hP.c w) (by first | rfl | assumption) ?_
      refine X_aload_n (pc := 17) 0 dX5_write_17 rfl rfl ?_
      refine X_getfield (pc := 18) dX5_write_18 fg_X5_44_3 (XW.cv w) (by first | rfl | assumption) ?_
      refine X_ivv (pc := 21) _ dX5_write_21 cv_X5_160_4 (MoK.ob (XW.mp w) w) rfl (xfromW g w w.mp 16 (St.q (w.k 16 (by decide))) (OpX.n w (P + 3) hP.2.2.2.2)) nX6_from (Nat.le_of_ble_eq_true rfl) (Nat.le_of_ble_eq_true rfl) (Nat.le_of_ble_eq_true rfl) (Nat.le_of_ble_eq_true rfl) (fun h2 q2 => ?_)
      obtain ⟨R2, e2, o2, w2⟩ := XW.ab q2
      have op2 := OpX.n2 w2 16 (w2.k 16 (by decide))
      rw [e2] at op2
      refine X_aload_n (pc := 24) 0 dX5_write_24 rfl rfl ?_
      refine X_getfield (pc := 25) dX5_write_25 fg_X5_22_3 (XW.cv w2) (by first | rfl | assumption) ?_
      refine X_aload_n (pc := 28) 0 dX5_write_28 rfl rfl ?_
      refine X_getfield (pc := 29) dX5_write_29 fg_X5_44_3 (XW.cv w2) (by first | rfl | assumption) ?_
      refine X_aload_n (pc := 32) 0 dX5_write_32 rfl rfl ?_
      refine X_getfield (pc := 33) dX5_write_33 fg_X5_44_3 (XW.cv w2) (by first | rfl | assumption) ?_
      refine X_ivi (pc := 36) _ dX5_write_36 cv_X5_163_4 (MoK.ob (XW.mp w2) w2) rfl (xinvW g w2 w2.mp 16 (St.q (w2.k 16 (by decide))) op2 (Or.inl (w2.k 16 (by decide)))) nX6_inverse (Nat.le_of_ble_eq_true rfl) (Nat.le_of_ble_eq_true rfl) (Nat.le_of_ble_eq_true rfl) (Nat.le_of_ble_eq_true rfl) (fun r3 h3 q3 => ?_)
      obtain ⟨v3, er3, hv3, q3⟩ := q3
      rw [if_pos gc] at er3
      subst er3
      obtain ⟨R3, e3, o3, w3⟩ := XW.ab q3
      have op3 := OpX.n2 w3 16 (w3.k 16 (by decide))
      rw [e3, hv3 gc] at op3
      refine X_istore (pc := 39) (L' := [(4, .int _), (0, .ref _), (1, .ref _), (2, .ref _), (3, .int _)]) dX5_write_39 (Nat.le_of_ble_eq_true rfl) rfl ?_
      refine X_aload_n (pc := 41) 1 dX5_write_41 rfl rfl ?_
      refine X_getfield (pc := 42) dX5_write_42 fg_X5_22_3 (XW.cv w3) (by first | rfl | assumption) ?_
      refine X_aload_n (pc := 45) 1 dX5_write_45 rfl rfl ?_
      refine X_getfield (pc := 46) dX5_write_46 fg_X5_44_3 (XW.cv w3) (by first | rfl | assumption) ?_
      refine X_aload_n (pc := 49) 1 dX5_write_49 rfl rfl ?_
      refine X_getfield (pc := 50) dX5_write_50 fg_X5_44_3 (XW.cv w3) (by first | rfl | assumption) ?_
      refine X_ivv (pc := 53) _ dX5_write_53 cv_X5_97_4 (MoK.ob (XW.mp w3) w3) rfl (xinW g w3 w3.mp 16 (St.q (w3.k 16 (by decide))) op3) nX6_in (Nat.le_of_ble_eq_true rfl) (Nat.le_of_ble_eq_true rfl) (Nat.le_of_ble_eq_true rfl) (Nat.le_of_ble_eq_true rfl) (fun h4 q4 => ?_)
      obtain ⟨R4, e4, o4, w4⟩ := XW.ab q4
      have l16 : R4 16 < pP := by rw [e4]; exact md_lt _
      have v16 : vm (R4 16) = ivP (vm (R (P + 3))) := by rw [e4]; exact vi
      have zi : vm (R (P + 3)) * ivP (vm (R (P + 3))) = 1 := ivP_ok _ hz0
      generalize ivP (vm (R (P + 3))) = iz at v16 zi
      have fa4 : FPk kd R4 16 := Or.inr ⟨w4.k 16 (by decide), l16⟩
      have f4 : ∀ j, j ≠ 16 → R4 j = R j := fun j hj => by rw [o4 j hj, o3 j hj, o2 j hj]
      refine X_aload_n (pc := 56) 1 dX5_write_56 rfl rfl ?_
      refine X_getfield (pc := 57) dX5_write_57 fg_X5_22_3 (XW.cv w4) (by first | rfl | assumption) ?_
      refine X_aload_n (pc := 60) 1 dX5_write_60 rfl rfl ?_
      refine X_getfield (pc := 61) dX5_write_61 fg_X5_44_3 (XW.cv w4) (by first | rfl | assumption) ?_
      refine X_aload_n (pc := 64) 1 dX5_write_64 rfl rfl ?_
      refine X_getfield (pc := 65) dX5_write_65 fg_X5_44_3 (XW.cv w4) (by first | rfl | assumption) ?_
      refine X_aload_n (pc := 68) 1 dX5_write_68 rfl rfl ?_
      refine X_getfield (pc := 69) dX5_write_69 fg_X5_47_3 (XW.cv w4) (by first | rfl | assumption) ?_
      refine X_ivv (pc := 72) _ dX5_write_72 cv_X5_140_4 (MoK.ob (XW.mp w4) w4) rfl (xmPr g w4 17 16 16 (St.p (w4.k 17 (by decide))) fa4 fa4) nX6_mul (Nat.le_of_ble_eq_true rfl) (Nat.le_of_ble_eq_true rfl) (Nat.le_of_ble_eq_true rfl) (Nat.le_of_ble_eq_true rfl) (fun h5 q5 => ?_)
      have v5' := vx_M (k := 17) (⟨v16, l16⟩ : vx R4 16 _) (⟨v16, l16⟩ : vx R4 16 _)
      obtain ⟨R5, e5, o5, w5⟩ := XW.ab q5
      have v17 : vm (R5 17) = iz * iz := by rw [e5]; exact (congrArg vm (up_same _ _ _).symm).trans v5'.1
      have f5 : ∀ j, j ≠ 16 → j ≠ 17 → R5 j = R j := fun j j1 j2 => by rw [o5 j j2, f4 j j1]
      refine X_aload_n (pc := 75) 1 dX5_write_75 rfl rfl ?_
      refine X_getfield (pc := 76) dX5_write_76 fg_X5_22_3 (XW.cv w5) (by first | rfl | assumption) ?_
      refine X_aload_n (pc := 79) 2 dX5_write_79 rfl rfl ?_
      refine X_getfield (pc := 80) dX5_write_80 fg_X5_103_5 (hP.c w5) (by first | rfl | assumption) ?_
      refine X_aload_n (pc := 83) 1 dX5_write_83 rfl rfl ?_
      refine X_getfield (pc := 84) dX5_write_84 fg_X5_47_3 (XW.cv w5) (by first | rfl | assumption) ?_
      refine X_aload_n (pc := 87) 1 dX5_write_87 rfl rfl ?_
      refine X_getfield (pc := 88) dX5_write_88 fg_X5_50_3 (XW.cv w5) (by first | rfl | assumption) ?_
      refine X_ivv (pc := 91) _ dX5_write_91 cv_X5_140_4 (MoK.ob (XW.mp w5) w5) rfl (xmPr g w5 18 (P + 1) 17 (St.p (w5.k 18 (by decide))) (Or.inl hP.2.2.1) (Or.inl (w5.k 17 (by decide)))) nX6_mul (Nat.le_of_ble_eq_true rfl) (Nat.le_of_ble_eq_true rfl) (Nat.le_of_ble_eq_true rfl) (Nat.le_of_ble_eq_true rfl) (fun h6 q6 => ?_)
      have v6' := vx_M (k := 18) (⟨congrArg vm (f5 (P + 1) (by omega) (by omega)), w5.lt hP.2.2.1⟩ : vx R5 (P + 1) (vm (R (P + 1)))) (⟨v17, w5.lt (w5.k 17 (by decide))⟩ : vx R5 17 _)
      obtain ⟨R6, e6, o6, w6⟩ := XW.ab q6
      have v18 : vm (R6 18) = x := by
        rw [e6]
        refine ((congrArg vm (up_same _ _ _).symm).trans v6'.1).trans ?_
        rw [hx]
        exact jw1 zi
      refine X_aload_n (pc := 94) 1 dX5_write_94 rfl rfl ?_
      refine X_getfield (pc := 95) dX5_write_95 fg_X5_22_3 (XW.cv w6) (by first | rfl | assumption) ?_
      refine X_aload_n (pc := 98) 1 dX5_write_98 rfl rfl ?_
      refine X_getfield (pc := 99) dX5_write_99 fg_X5_50_3 (XW.cv w6) (by first | rfl | assumption) ?_
      refine X_aload_n (pc := 102) 1 dX5_write_102 rfl rfl ?_
      refine X_getfield (pc := 103) dX5_write_103 fg_X5_50_3 (XW.cv w6) (by first | rfl | assumption) ?_
      refine X_ivv (pc := 106) _ dX5_write_106 cv_X5_160_4 (MoK.ob (XW.mp w6) w6) rfl (xfromW g w6 w6.mp 18 (St.p (w6.k 18 (by decide))) (OpX.n w6 18 (w6.k 18 (by decide)))) nX6_from (Nat.le_of_ble_eq_true rfl) (Nat.le_of_ble_eq_true rfl) (Nat.le_of_ble_eq_true rfl) (Nat.le_of_ble_eq_true rfl) (fun h7 q7 => ?_)
      obtain ⟨R7, e7, o7, w7⟩ := XW.ab q7
      have x7 : R7 18 = x.val := by rw [e7, ← v18, ← vm_from, fp_val_lt (mgm_lt pP_odd _ _)]
      have f7 : ∀ j, j ≠ 16 → j ≠ 17 → j ≠ 18 → R7 j = R j := fun j j1 j2 j3 => by rw [o7 j j3, o6 j j3, f5 j j1 j2]
      have v167 : vm (R7 16) = iz := by rw [o7 16 (by decide), o6 16 (by decide), o5 16 (by decide)]; exact v16
      have l167 : R7 16 < pP := by rw [o7 16 (by decide), o6 16 (by decide), o5 16 (by decide)]; exact l16
      have v177 : vm (R7 17) = iz * iz := by rw [o7 17 (by decide), o6 17 (by decide)]; exact v17
      refine X_aload_n (pc := 109) 1 dX5_write_109 rfl rfl ?_
      refine X_getfield (pc := 110) dX5_write_110 fg_X5_22_3 (XW.cv w7) (by first | rfl | assumption) ?_
      refine X_aload_n (pc := 113) 1 dX5_write_113 rfl rfl ?_
      refine X_getfield (pc := 114) dX5_write_114 fg_X5_47_3 (XW.cv w7) (by first | rfl | assumption) ?_
      refine X_aload_n (pc := 117) 1 dX5_write_117 rfl rfl ?_
      refine X_getfield (pc := 118) dX5_write_118 fg_X5_44_3 (XW.cv w7) (by first | rfl | assumption) ?_
      refine X_aload_n (pc := 121) 1 dX5_write_121 rfl rfl ?_
      refine X_getfield (pc := 122) dX5_write_122 fg_X5_47_3 (XW.cv w7) (by first | rfl | assumption) ?_
      refine X_ivv (pc := 125) _ dX5_write_125 cv_X5_140_4 (MoK.ob (XW.mp w7) w7) rfl (xmPr g w7 17 17 16 (St.p (w7.k 17 (by decide))) (Or.inl (w7.k 17 (by decide))) (Or.inr ⟨w7.k 16 (by decide), l167⟩)) nX6_mul (Nat.le_of_ble_eq_true rfl) (Nat.le_of_ble_eq_true rfl) (Nat.le_of_ble_eq_true rfl) (Nat.le_of_ble_eq_true rfl) (fun h8 q8 => ?_)
      have v8' := vx_M (k := 17) (⟨v177, w7.lt (w7.k 17 (by decide))⟩ : vx R7 17 _) (⟨v167, l167⟩ : vx R7 16 _)
      obtain ⟨R8, e8, o8, w8⟩ := XW.ab q8
      have v178 : vm (R8 17) = iz * iz * iz := by rw [e8]; exact (congrArg vm (up_same _ _ _).symm).trans v8'.1
      refine X_aload_n (pc := 128) 1 dX5_write_128 rfl rfl ?_
      refine X_getfield (pc := 129) dX5_write_129 fg_X5_22_3 (XW.cv w8) (by first | rfl | assumption) ?_
      refine X_aload_n (pc := 132) 2 dX5_write_132 rfl rfl ?_
      refine X_getfield (pc := 133) dX5_write_133 fg_X5_108_5 (hP.c w8) (by first | rfl | assumption) ?_
      refine X_aload_n (pc := 136) 1 dX5_write_136 rfl rfl ?_
      refine X_getfield (pc := 137) dX5_write_137 fg_X5_47_3 (XW.cv w8) (by first | rfl | assumption) ?_
      refine X_aload_n (pc := 140) 1 dX5_write_140 rfl rfl ?_
      refine X_getfield (pc := 141) dX5_write_141 fg_X5_53_3 (XW.cv w8) (by first | rfl | assumption) ?_
      refine X_ivv (pc := 144) _ dX5_write_144 cv_X5_140_4 (MoK.ob (XW.mp w8) w8) rfl (xmPr g w8 19 (P + 2) 17 (St.p (w8.k 19 (by decide))) (Or.inl hP.2.2.2.1) (Or.inl (w8.k 17 (by decide)))) nX6_mul (Nat.le_of_ble_eq_true rfl) (Nat.le_of_ble_eq_true rfl) (Nat.le_of_ble_eq_true rfl) (Nat.le_of_ble_eq_true rfl) (fun h9 q9 => ?_)
      have v9' := vx_M (k := 19) (⟨congrArg vm ((o8 (P + 2) (by omega)).trans (f7 (P + 2) (by omega) (by omega) (by omega))), w8.lt hP.2.2.2.1⟩ : vx R8 (P + 2) (vm (R (P + 2)))) (⟨v178, w8.lt (w8.k 17 (by decide))⟩ : vx R8 17 _)
      obtain ⟨R9, e9, o9, w9⟩ := XW.ab q9
      have v19 : vm (R9 19) = y := by
        rw [e9]
        refine ((congrArg vm (up_same _ _ _).symm).trans v9'.1).trans ?_
        rw [hy]
        exact jw2 zi
      refine X_aload_n (pc := 147) 1 dX5_write_147 rfl rfl ?_
      refine X_getfield (pc := 148) dX5_write_148 fg_X5_22_3 (XW.cv w9) (by first | rfl | assumption) ?_
      refine X_aload_n (pc := 151) 1 dX5_write_151 rfl rfl ?_
      refine X_getfield (pc := 152) dX5_write_152 fg_X5_53_3 (XW.cv w9) (by first | rfl | assumption) ?_
      refine X_aload_n (pc := 155) 1 dX5_write_155 rfl rfl ?_
      refine X_getfield (pc := 156) dX5_write_156 fg_X5_53_3 (XW.cv w9) (by first | rfl | assumption) ?_
      refine X_ivv (pc := 159) _ dX5_write_159 cv_X5_160_4 (MoK.ob (XW.mp w9) w9) rfl (xfromW g w9 w9.mp 19 (St.p (w9.k 19 (by decide))) (OpX.n w9 19 (w9.k 19 (by decide)))) nX6_from (Nat.le_of_ble_eq_true rfl) (Nat.le_of_ble_eq_true rfl) (Nat.le_of_ble_eq_true rfl) (Nat.le_of_ble_eq_true rfl) (fun h10 q10 => ?_)
      obtain ⟨R10, e10, o10, w10⟩ := XW.ab q10
      have y10 : R10 19 = y.val := by rw [e10, ← v19, ← vm_from, fp_val_lt (mgm_lt pP_odd _ _)]
      have x10 : R10 18 = x.val := by rw [o10 18 (by decide), o9 18 (by decide), o8 18 (by decide)]; exact x7
      have f10 : ∀ j, cvS j = false → R10 j = R j := fun j hj => by
        have := cvS_ne hj
        rw [o10 j (by omega), o9 j (by omega), o8 j (by omega), f7 j (by omega) (by omega) (by omega)]
      obtain ⟨f19, c19, v19', -⟩ := w10.n 19 (w10.k 19 (by decide))
      obtain ⟨ft, ct, pt, -⟩ := w10.s kt hkt
      have cl : (nI (S kt).length).toNatClampNeg = (S kt).length := nI_clamp (by omega)
      refine X_aload_n (pc := 162) 3 dX5_write_162 rfl rfl ?_
      refine X_iload_n (pc := 163) 4 dX5_write_163 rfl rfl ?_
      refine X_iconst (pc := 164) (x := 2) dX5_write_164 (by decide) ?_
      refine X_aload_n (pc := 165) 1 dX5_write_165 rfl rfl ?_
      refine X_getfield (pc := 166) dX5_write_166 fg_X5_53_3 (XW.cv w10) (by first | rfl | assumption) ?_
      refine X_iconst (pc := 169) (x := 0) dX5_write_169 (by decide) ?_
      refine X_iaload (pc := 170) dX5_write_170 c19 (vp_in_nI (n := 0) (by decide) (by decide)) ?_
      refine X_iconst (pc := 171) (x := 1) dX5_write_171 (by decide) ?_
      refine X_iand (pc := 172) dX5_write_172 ?_
      rw [show f19 ((0 : Int32).toNatClampNeg) &&& 1 = nI (y.val % 2) by rw [show (0 : Int32).toNatClampNeg = 0 from rfl, V_odd (n := 12) (by decide), v19', y10]]
      refine X_iadd (pc := 173) dX5_write_173 ?_
      refine X_i2b (pc := 174) dX5_write_174 ?_
      rw [two_par]
      refine X_bastore (pc := 175) dX5_write_175 ct (vp_in_nI (by omega) (by omega)) ?_
      rw [cl, tb8]
      have w11 := w10.setS kt hkt (PL_snoc (x := tb (2 + y.val % 2)) pt) (by rw [List.length_append]; show (S kt).length + 1 ≤ nt; omega)
      generalize hset h10 (A kt) (Ai false 2 nt (upd ft (S kt).length (tb (2 + y.val % 2)))) = h11 at w11
      have op11 := OpX.n w11 18 (w11.k 18 (by decide))
      rw [x10] at op11
      have hl11 : (up S kt (S kt ++ [tb (2 + y.val % 2)]) kt).length = (S kt).length + 1 := by rw [up_same, List.length_append]; rfl
      refine X_aload_n (pc := 176) 1 dX5_write_176 rfl rfl ?_
      refine X_getfield (pc := 177) dX5_write_177 fg_X5_50_3 (XW.cv w11) (by first | rfl | assumption) ?_
      refine X_aload_n (pc := 180) 3 dX5_write_180 rfl rfl ?_
      refine X_iload_n (pc := 181) 4 dX5_write_181 rfl rfl ?_
      refine X_iconst (pc := 182) (x := 1) dX5_write_182 (by decide) ?_
      refine X_iadd (pc := 183) dX5_write_183 ?_
      refine X_bipush (pc := 184) (x := 48) dX5_write_184 (by decide) ?_
      rw [show nI (S kt).length + 1 = nI ((S kt).length + 1) from nI_add _ 1, ← hl11]
      refine X_isv (pc := 186) _ dX5_write_186 cs_X5_167 rfl (xwriteA g w11 op11 hkt (by decide) hnt (many := 48) (by rw [hl11]; omega) (by decide)) nX6_write (Nat.le_of_ble_eq_true rfl) (Nat.le_of_ble_eq_true rfl) (Nat.le_of_ble_eq_true rfl) (Nat.le_of_ble_eq_true rfl) (fun h12 w12 => ?_)
      rw [up_same, up_up', List.append_assoc, ← encB_cons] at w12
      refine X_iload (pc := 189) 0 dX5_write_189 rfl ?_
      refine X_zreturn (pc := 191) dX5_write_191 rfl (by first | exact Or.inl rfl | exact Or.inr rfl | assumption | exact zo_if) (Nat.le_of_ble_eq_true rfl) (Nat.le_of_ble_eq_true rfl) ?_
      exact ⟨1, rfl, R10, f10, Or.inr ⟨rfl, fun e => (by cases e), w12⟩⟩
    · exact absurd rfl c_4
end XWr
