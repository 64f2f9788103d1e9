set_option maxRecDepth 100000
/-! VeilMint's curve: the map, a point from its bytes, a point's bytes -/
section XPt
variable {kd : Nat → KD} {A : Nat → Nat} {X : AH} {R : Nat → Nat} {S : Nat → List Int32} {O : Nat → AC} {F : Nat → Int32} {h : AH}
theorem vm_rt {x : Nat} : vm (mgm pP 12 x ^ eP * 2 ^ (32 * 12) % pP) = rt (vm x) := by rw [vm_in, fp_pow, vm_from, eP_def, rt_def]
theorem xroot (g : GX) (w : XW kd A X R S O F h) (k o : Nat) (hk : kd k = (1, 0, 12)) (ho : kd o = (1, 0, 12)) (ho13 : o ≠ 13) (xb : XB R) :
    MT g MX6_pow ({ frames := 4, cells := 1, slots := 64, locals := 95 } : Room) [.ref (A 30), .ref (A k), .ref (A 13), .ref (A o)] h (RV fun h' => ∃ R', (∀ j, j ≠ o → R' j = R j) ∧ vm (R' o) = rt (vm (R k)) ∧ XW kd A X R' S O F h') := by
  have oe : OpE kd A X R S O F (fun j => j == o) (A 13) 12 (R 13) := OpE.g (mv := pP) (St.q (w.k 13 (by decide))) (by simp; omega)
  rw [xb.2.1] at oe
  refine MT.mono (xpowW g w w.mp o (St.p ho) (OpX.n w k hk) (w.lt hk) oe (by decide)) (fun o1 h' q => ?_)
  exact ⟨q.1, _, fun j hj => up_ne hj, by rw [up_same]; exact vm_rt, q.2⟩
theorem Jc_one {x y : Fp} : Jc x y 1 (some (x, y)) := by
  refine ⟨by decide +kernel, ?_, ?_⟩
  · grind
  · grind
theorem c01 {u : Nat} : (if nI (u % 2) = 1 then (1 : Int32) else 0) = nI (u % 2) := by
  have h : u % 2 = 0 ∨ u % 2 = 1 := by omega
  rcases h with e | e <;> rw [e] <;> decide
noncomputable def mpR (R : Nat → Nat) : Nat → Nat := rAdd 18 18 17 (rMx 18 17 17 (rMx 17 17 14 (rMx 17 16 16 R)))
theorem mpR_o {R : Nat → Nat} {j : Nat} (h17 : j ≠ 17) (h18 : j ≠ 18) : mpR R j = R j := by
  unfold mpR
  exact (up_ne h18).trans ((up_ne h18).trans ((up_ne h17).trans (up_ne h17)))
theorem mpR_v {R : Nat → Nat} {x14 x16 : Fp}  (t0_14 : vx R 14 x14) (t0_16 : vx R 16 x16) : vx (mpR R) 17 ((x16 * x16) * x14) ∧ vx (mpR R) 18 ((((x16 * x16) * x14) * ((x16 * x16) * x14)) + ((x16 * x16) * x14)) := by
  have t1_14 := vx_Mo (k := 17) (a := 16) (b := 16) t0_14 (by omega)
  have t1_17 := vx_M (k := 17) t0_16 t0_16
  have t2_17 := vx_M (k := 17) t1_17 t1_14
  have t3_17 := vx_Mo (k := 18) (a := 17) (b := 17) t2_17 (by omega)
  have t3_18 := vx_M (k := 18) t2_17 t2_17
  have t4_17 := vx_Ao (k := 18) (a := 18) (b := 17) t3_17 (by omega)
  have t4_18 := vx_A (k := 18) t3_18 t3_17
  exact ⟨t4_17, t4_18⟩
set_option maxHeartbeats 8000000 in
theorem xmap_ok (g : GX) (w : XW kd A X R S O F h) {P at' : Nat} (hP : PtK kd A O P) (hP60 : 64 ≤ P) (xb : XB R) (hl : at' + 72 ≤ (S 24).length) :
    MT g MX5_map ({ frames := 6, cells := 2, slots := 128, locals := 140 } : Room) [.ref (A 11), .int (nI at'), .ref (A P)] h (RV (PtQ kd A X R S O F (ecS P) P (mapS (fp (fld (S 24) at' pP))))) := by
  refine MT.of (by decide) (Nat.le_of_ble_eq_true rfl) ?_
  have hu : fld (S 24) at' pP < pP := md_lt _
  generalize hQ : RV (PtQ kd A X R S O F (ecS P) P (mapS (fp (fld (S 24) at' pP)))) = Q
  have huv : fld (S 24) at' pP = num (S 24) at' 72 % pP := rfl
  generalize fld (S 24) at' pP = u at *
  have huu : (fp u).val = u := fp_val_lt hu
  -- the end
  have tail : ∀ (k n : Nat) (R1 : Nat → Nat) (h1 : AH), k ≤ 2 → n ≤ 128 → XW kd A X R1 S O F h1 → (∀ j, ecS P j = false → R1 j = R j) → mapP (fp u) = (vm (R1 (P + 1)), vm (R1 (P + 2))) →
      XX g MX5_map ({ frames := 6, cells := 2, slots := 128, locals := 140 } : Room) Q k n 253 [(3, .int (nI (u % 2))), (0, .ref (A 11)), (1, .int (nI at')), (2, .ref (A P))] [] h1 := by
    intro k n R1 h1 hk hn w1 fr hm
    refine X_aload_n (pc := 253) 1 dX5_map_253 rfl rfl ?_
    refine X_getfield (pc := 254) dX5_map_254 fg_X5_22_3 (XW.cv w1) (by first | rfl | assumption) ?_
    refine X_aload_n (pc := 257) 3 dX5_map_257 rfl rfl ?_
    refine X_getfield (pc := 258) dX5_map_258 fg_X5_108_5 (hP.c w1) (by first | rfl | assumption) ?_
    refine X_aload_n (pc := 261) 1 dX5_map_261 rfl rfl ?_
    refine X_getfield (pc := 262) dX5_map_262 fg_X5_56_3 (XW.cv w1) (by first | rfl | assumption) ?_
    refine X_ivv (pc := 265) _ dX5_map_265 cv_X5_160_4 (MoK.ob (XW.mp w1) w1) rfl (xfromW g w1 w1.mp 20 (St.p (w1.k 20 (by decide))) (OpX.n w1 (P + 2) hP.2.2.2.1)) nX6_from (Nat.le_of_ble_eq_true rfl) (Nat.le_of_ble_eq_true rfl) (by show k + 0 ≤ 2; omega) (by show n + 0 ≤ 128; omega) (fun h2 q2 => ?_)
    obtain ⟨R2, e2, o2, w2⟩ := XW.ab q2
    obtain ⟨f20, c20, v20, l20⟩ := w2.n 20 (w2.k 20 (by decide))
    have hy : (vm (R1 (P + 2))).val = R2 20 := by rw [← vm_from, fp_val_lt (mgm_lt pP_odd _ _), e2]
    refine X_aload_n (pc := 268) 1 dX5_map_268 rfl rfl ?_
    refine X_getfield (pc := 269) dX5_map_269 fg_X5_56_3 (XW.cv w2) (by first | rfl | assumption) ?_
    refine X_iconst (pc := 272) (x := 0) dX5_map_272 (by decide) ?_
    refine X_iaload (pc := 273) dX5_map_273 c20 (vp_in_nI (n := 0) (by decide) (by decide)) ?_
    refine X_iconst (pc := 274) (x := 1) dX5_map_274 (by decide) ?_
    refine X_iand (pc := 275) dX5_map_275 ?_
    rw [show f20 ((0 : Int32).toNatClampNeg) &&& 1 = nI (R2 20 % 2) by rw [show (0 : Int32).toNatClampNeg = 0 from rfl, V_odd (n := 12) (by decide), v20]]
    have fr2 : ∀ j, ecS P j = false → R2 j = R j := fun j hj => by
      have := ecS_ne hj
      rw [o2 j (by omega), fr j hj]
    have x2 : R2 (P + 1) = R1 (P + 1) := o2 _ (by omega)
    have y2 : R2 (P + 2) = R1 (P + 2) := o2 _ (by omega)
    have fin : ∀ (R3 : Nat → Nat) (h3 : AH), XW kd A X R3 S O F h3 → (∀ j, ecS P j = false → R3 j = R j) → vm (R3 (P + 1)) = vm (R1 (P + 1)) → vm (R3 (P + 2)) = sgn (fp u) (vm (R1 (P + 2))) →
        XX g MX5_map ({ frames := 6, cells := 2, slots := 128, locals := 140 } : Room) Q (k + 0) (n + 0) 297 [(3, .int (nI (u % 2))), (0, .ref (A 11)), (1, .int (nI at')), (2, .ref (A P))] [] h3 := by
      intro R3 h3 w3 fr3 hx hy3
      have o1p := (XW.mp w3).o1 w3
      rw [← oneP_ok] at o1p
      refine X_aload_n (pc := 297) 1 dX5_map_297 rfl rfl ?_
      refine X_getfield (pc := 298) dX5_map_298 fg_X5_22_3 (XW.cv w3) (by first | rfl | assumption) ?_
      refine X_getfield (pc := 301) dX5_map_301 fg_X5_111_4 (MoK.ob (XW.mp w3) w3) (by first | rfl | assumption) ?_
      refine X_aload_n (pc := 304) 3 dX5_map_304 rfl rfl ?_
      refine X_getfield (pc := 305) dX5_map_305 fg_X5_114_5 (hP.c w3) (by first | rfl | assumption) ?_
      refine X_isv (pc := 308) _ dX5_map_308 cs_X5_117 rfl (xcopyW g w3 (P + 3) (St.p hP.2.2.2.2) o1p oneP_lt (by decide)) nX6_copy (Nat.le_of_ble_eq_true rfl) (Nat.le_of_ble_eq_true rfl) (by show k + 0 + 0 ≤ 2; omega) (by show n + 0 + 0 ≤ 128; omega) (fun h4 q4 => ?_)
      subst hQ
      refine X_return (pc := 311) dX5_map_311 rfl (by show k + 0 + 0 ≤ 2; omega) (by show n + 0 + 0 ≤ 128; omega) ?_
      refine ⟨rfl, _, fun j hj => ?_, ?_, q4⟩
      · have := ecS_ne hj
        rw [up_ne (by omega), fr3 j hj]
      · unfold PtV
        rw [up_same, up_ne (by omega), up_ne (by omega), oneP_v, hx, hy3]
        unfold mapS
        rw [hm]
        exact Jc_one
    have stk : ∀ y : Int32, y = nI (R2 20 % 2) → XX g MX5_map ({ frames := 6, cells := 2, slots := 128, locals := 140 } : Room) Q (k + 0) (n + 0) 285 [(3, .int (nI (u % 2))), (0, .ref (A 11)), (1, .int (nI at')), (2, .ref (A P))] [.int y] h2 := by
      intro y ey
      subst ey
      refine X_iload_n (pc := 285) 0 dX5_map_285 rfl rfl ?_
      by_cases hp : R2 20 % 2 = u % 2
      · refine X_icmp_eq (pc := 286) 297 dX5_map_286 (by decide) (fun _ => ?_) (fun c => absurd (nI_par.mpr hp) c)
        refine fin R2 h2 w2 fr2 (by rw [x2]) ?_
        unfold sgn
        rw [huu, hy, if_pos hp.symm, y2]
      · refine X_icmp_eq (pc := 286) 297 dX5_map_286 (by decide) (fun c => absurd (nI_par.mp c) hp) (fun _ => ?_)
        refine X_aload_n (pc := 289) 1 dX5_map_289 rfl rfl ?_
        refine X_aload_n (pc := 290) 3 dX5_map_290 rfl rfl ?_
        refine X_getfield (pc := 291) dX5_map_291 fg_X5_108_5 (hP.c w2) (by first | rfl | assumption) ?_
        refine X_ivv (pc := 294) _ dX5_map_294 cv_X5_185_3 (XW.cv w2) rfl (negate_ok g w2 (P + 2) hP.2.2.2.1 (by omega)) nX5_negate (Nat.le_of_ble_eq_true rfl) (Nat.le_of_ble_eq_true rfl) (by show k + 0 + 0 ≤ 2; omega) (by show n + 0 + 0 ≤ 128; omega) (fun h3 q3 => ?_)
        obtain ⟨R3, o3, v3, w3⟩ := q3
        refine fin R3 h3 w3 (fun j hj => ?_) ?_ ?_
        · have := ecS_ne hj
          rw [o3 j (by omega) (by omega), fr2 j hj]
        · rw [o3 _ (by omega) (by omega), x2]
        · rw [v3, y2]
          unfold sgn
          rw [huu, hy, if_neg (fun z => hp z.symm)]
    refine X_iconst (pc := 276) (x := 1) dX5_map_276 (by decide) ?_
    have h01 : R2 20 % 2 = 0 ∨ R2 20 % 2 = 1 := by omega
    rcases h01 with e | e
    · rw [e]
      refine X_icmp_ne (pc := 277) 284 dX5_map_277 (by decide) (fun _ => ?_) (fun c => absurd c (by decide))
      refine X_iconst (pc := 284) (x := 0) dX5_map_284 (by decide) ?_
      exact stk 0 (by rw [e]; rfl)
    · rw [e]
      refine X_icmp_ne (pc := 277) 284 dX5_map_277 (by decide) (fun c => absurd rfl c) (fun _ => ?_)
      refine X_iconst (pc := 280) (x := 1) dX5_map_280 (by decide) ?_
      refine X_goto (pc := 281) 285 dX5_map_281 (by decide) ?_
      exact stk 1 (by rw [e]; rfl)
  -- behind the parity
  have mid : ∀ (R1 : Nat → Nat) (h1 : AH), XW kd A X R1 S O F h1 → (∀ j, ecS P j = false → R1 j = R j) → R1 16 = u →
      XX g MX5_map ({ frames := 6, cells := 2, slots := 128, locals := 140 } : Room) Q 0 0 36 [(3, .int (nI (u % 2))), (0, .ref (A 11)), (1, .int (nI at')), (2, .ref (A P))] [] h1 := by
    intro R1 h1 w1 fr e1
    have op1 := OpX.n2 w1 16 (w1.k 16 (by decide))
    rw [e1] at op1
    have xb1 : XB R1 := xb.fr fun j hj => fr j (ecS_f (by omega) (by omega) (by omega) (by omega))
    refine X_aload_n (pc := 36) 1 dX5_map_36 rfl rfl ?_
    refine X_getfield (pc := 37) dX5_map_37 fg_X5_22_3 (XW.cv w1) (by first | rfl | assumption) ?_
    refine X_aload_n (pc := 40) 1 dX5_map_40 rfl rfl ?_
    refine X_getfield (pc := 41) dX5_map_41 fg_X5_44_3 (XW.cv w1) (by first | rfl | assumption) ?_
    refine X_aload_n (pc := 44) 1 dX5_map_44 rfl rfl ?_
    refine X_getfield (pc := 45) dX5_map_45 fg_X5_44_3 (XW.cv w1) (by first | rfl | assumption) ?_
    refine X_ivv (pc := 48) _ dX5_map_48 cv_X5_97_4 (MoK.ob (XW.mp w1) w1) rfl (xinW g w1 w1.mp 16 (St.q (w1.k 16 (by decide))) op1) nX6_in (Nat.le_of_ble_eq_true rfl) (Nat.le_of_ble_eq_true rfl) (Nat.le_of_ble_eq_true rfl) (Nat.le_of_ble_eq_true rfl) (fun h2 q2 => ?_)
    obtain ⟨R2, e2, o2, w2⟩ := XW.ab q2
    have fr2 : ∀ j, ecS P j = false → R2 j = R j := fun j hj => by
      have := ecS_ne hj
      rw [o2 j (by omega), fr j hj]
    have xb2 : XB R2 := xb.fr fun j hj => fr2 j (ecS_f (by omega) (by omega) (by omega) (by omega))
    have l16 : R2 16 < pP := by rw [e2]; exact md_lt _
    have v16 : vm (R2 16) = fp u := by rw [e2]; exact vm_in u
    have fa0 : FPk kd R2 16 := Or.inr ⟨w2.k 16 (by decide), l16⟩
    refine X_aload_n (pc := 51) 1 dX5_map_51 rfl rfl ?_
    refine X_getfield (pc := 52) dX5_map_52 fg_X5_22_3 (XW.cv w2) rfl ?_
    refine X_aload_n (pc := 55) 1 dX5_map_55 rfl rfl ?_
    refine X_getfield (pc := 56) dX5_map_56 fg_X5_44_3 (XW.cv w2) rfl ?_
    refine X_aload_n (pc := 59) 1 dX5_map_59 rfl rfl ?_
    refine X_getfield (pc := 60) dX5_map_60 fg_X5_44_3 (XW.cv w2) rfl ?_
    refine X_aload_n (pc := 63) 1 dX5_map_63 rfl rfl ?_
    refine X_getfield (pc := 64) dX5_map_64 fg_X5_47_3 (XW.cv w2) rfl ?_
    refine X_ivv (pc := 67) _ dX5_map_67 cv_X5_140_4 (MoK.ob (XW.mp w2) w2) rfl (xmPr g w2 17 16 16 (St.p (XW.k w2 17 (by decide))) fa0 fa0) nX6_mul (Nat.le_of_ble_eq_true rfl) (Nat.le_of_ble_eq_true rfl) (Nat.le_of_ble_eq_true rfl) (Nat.le_of_ble_eq_true rfl) (fun h_1 w_1 => ?_)
    have fa_1 := FPk.kM w_1 fa0 (by omega)
    refine X_aload_n (pc := 70) 1 dX5_map_70 rfl rfl ?_
    refine X_getfield (pc := 71) dX5_map_71 fg_X5_22_3 (XW.cv w_1) rfl ?_
    refine X_aload_n (pc := 74) 1 dX5_map_74 rfl rfl ?_
    refine X_getfield (pc := 75) dX5_map_75 fg_X5_47_3 (XW.cv w_1) rfl ?_
    refine X_aload_n (pc := 78) 1 dX5_map_78 rfl rfl ?_
    refine X_getfield (pc := 79) dX5_map_79 fg_X5_38_3 (XW.cv w_1) rfl ?_
    refine X_aload_n (pc := 82) 1 dX5_map_82 rfl rfl ?_
    refine X_getfield (pc := 83) dX5_map_83 fg_X5_47_3 (XW.cv w_1) rfl ?_
    refine X_ivv (pc := 86) _ dX5_map_86 cv_X5_140_4 (MoK.ob (XW.mp w_1) w_1) rfl (xmPr g w_1 17 17 14 (St.p (XW.k w_1 17 (by decide))) (Or.inl (XW.k w_1 17 (by decide))) (Or.inl (XW.k w_1 14 (by decide)))) nX6_mul (Nat.le_of_ble_eq_true rfl) (Nat.le_of_ble_eq_true rfl) (Nat.le_of_ble_eq_true rfl) (Nat.le_of_ble_eq_true rfl) (fun h_2 w_2 => ?_)
    have fa_2 := FPk.kM w_2 fa_1 (by omega)
    refine X_aload_n (pc := 89) 1 dX5_map_89 rfl rfl ?_
    refine X_getfield (pc := 90) dX5_map_90 fg_X5_22_3 (XW.cv w_2) rfl ?_
    refine X_aload_n (pc := 93) 1 dX5_map_93 rfl rfl ?_
    refine X_getfield (pc := 94) dX5_map_94 fg_X5_47_3 (XW.cv w_2) rfl ?_
    refine X_aload_n (pc := 97) 1 dX5_map_97 rfl rfl ?_
    refine X_getfield (pc := 98) dX5_map_98 fg_X5_47_3 (XW.cv w_2) rfl ?_
    refine X_aload_n (pc := 101) 1 dX5_map_101 rfl rfl ?_
    refine X_getfield (pc := 102) dX5_map_102 fg_X5_50_3 (XW.cv w_2) rfl ?_
    refine X_ivv (pc := 105) _ dX5_map_105 cv_X5_140_4 (MoK.ob (XW.mp w_2) w_2) rfl (xmPr g w_2 18 17 17 (St.p (XW.k w_2 18 (by decide))) (Or.inl (XW.k w_2 17 (by decide))) (Or.inl (XW.k w_2 17 (by decide)))) nX6_mul (Nat.le_of_ble_eq_true rfl) (Nat.le_of_ble_eq_true rfl) (Nat.le_of_ble_eq_true rfl) (Nat.le_of_ble_eq_true rfl) (fun h_3 w_3 => ?_)
    have fa_3 := FPk.kM w_3 fa_2 (by omega)
    refine X_aload_n (pc := 108) 1 dX5_map_108 rfl rfl ?_
    refine X_getfield (pc := 109) dX5_map_109 fg_X5_22_3 (XW.cv w_3) rfl ?_
    refine X_aload_n (pc := 112) 1 dX5_map_112 rfl rfl ?_
    refine X_getfield (pc := 113) dX5_map_113 fg_X5_50_3 (XW.cv w_3) rfl ?_
    refine X_aload_n (pc := 116) 1 dX5_map_116 rfl rfl ?_
    refine X_getfield (pc := 117) dX5_map_117 fg_X5_47_3 (XW.cv w_3) rfl ?_
    refine X_aload_n (pc := 120) 1 dX5_map_120 rfl rfl ?_
    refine X_getfield (pc := 121) dX5_map_121 fg_X5_50_3 (XW.cv w_3) rfl ?_
    refine X_ivv (pc := 124) _ dX5_map_124 cv_X5_129_4 (MoK.ob (XW.mp w_3) w_3) rfl (xaPr g w_3 18 18 17 (St.p (XW.k w_3 18 (by decide))) (Or.inl (XW.k w_3 18 (by decide))) (Or.inl (XW.k w_3 17 (by decide)))) nX6_add (Nat.le_of_ble_eq_true rfl) (Nat.le_of_ble_eq_true rfl) (Nat.le_of_ble_eq_true rfl) (Nat.le_of_ble_eq_true rfl) (fun h_4 w_4 => ?_)
    have fa_4 := FPk.kA w_4 fa_3 (by omega)
    have wA : XW kd A X (mpR R2) S O F _ := w_4
    obtain ⟨v17, v18⟩ := mpR_v (R := R2) xb2.z ⟨v16, l16⟩
    have frA : ∀ j, ecS P j = false → mpR R2 j = R j := fun j hj => by
      have := ecS_ne hj
      rw [mpR_o (by omega) (by omega), fr2 j hj]
    generalize mpR R2 = RA at wA v17 v18 frA
    have xbA : XB RA := xb.fr fun j hj => frA j (ecS_f (by omega) (by omega) (by omega) (by omega))
    rw [← zP_12, map_c] at v17 v18
    generalize hc : zP * (fp u * fp u) = c at v17 v18
    refine X_aload_n (pc := 127) 1 dX5_map_127 rfl rfl ?_
    refine X_aload_n (pc := 128) 1 dX5_map_128 rfl rfl ?_
    refine X_getfield (pc := 129) dX5_map_129 fg_X5_50_3 (XW.cv wA) (by first | rfl | assumption) ?_
    refine X_aload_n (pc := 132) 3 dX5_map_132 rfl rfl ?_
    refine X_getfield (pc := 133) dX5_map_133 fg_X5_103_5 (hP.c wA) (by first | rfl | assumption) ?_
    refine X_ivv (pc := 136) _ dX5_map_136 cv_X5_249_3 (XW.cv wA) rfl (firstX_ok g wA (P + 1) hP.2.2.1 (by omega) xbA) nX5_firstX (Nat.le_of_ble_eq_true rfl) (Nat.le_of_ble_eq_true rfl) (Nat.le_of_ble_eq_true rfl) (Nat.le_of_ble_eq_true rfl) (fun h3 q3 => ?_)
    obtain ⟨R3, o3, v3, w3⟩ := q3
    rw [v18.1, show (if c * c + c = 0 then ivP 36 * BP else (ivP (c * c + c) + 1) * ivP 3 * BP) = x1P c from rfl] at v3
    have fr3 : ∀ j, ecS P j = false → R3 j = R j := fun j hj => by
      have := ecS_ne hj
      rw [o3 j (by omega) (by omega) (by omega), frA j hj]
    have xb3 : XB R3 := xb.fr fun j hj => fr3 j (ecS_f (by omega) (by omega) (by omega) (by omega))
    have v17' : vm (R3 17) = c := by rw [o3 17 (by decide) (by decide) (by omega)]; exact v17.1
    refine X_aload_n (pc := 139) 1 dX5_map_139 rfl rfl ?_
    refine X_aload_n (pc := 140) 3 dX5_map_140 rfl rfl ?_
    refine X_getfield (pc := 141) dX5_map_141 fg_X5_103_5 (hP.c w3) (by first | rfl | assumption) ?_
    refine X_aload_n (pc := 144) 1 dX5_map_144 rfl rfl ?_
    refine X_getfield (pc := 145) dX5_map_145 fg_X5_53_3 (XW.cv w3) (by first | rfl | assumption) ?_
    refine X_ivv (pc := 148) _ dX5_map_148 cv_X5_175_3 (XW.cv w3) rfl (square_ok g w3 (P + 1) 19 hP.2.2.1 (w3.k 19 (by decide)) (by omega) xb3) nX5_square (Nat.le_of_ble_eq_true rfl) (Nat.le_of_ble_eq_true rfl) (Nat.le_of_ble_eq_true rfl) (Nat.le_of_ble_eq_true rfl) (fun h4 q4 => ?_)
    obtain ⟨R4, o4, v4, w4⟩ := q4
    rw [v3] at v4
    have fr4 : ∀ j, ecS P j = false → R4 j = R j := fun j hj => by
      have := ecS_ne hj
      rw [o4 j (by omega) (by omega), fr3 j hj]
    have xb4 : XB R4 := xb.fr fun j hj => fr4 j (ecS_f (by omega) (by omega) (by omega) (by omega))
    refine X_aload_n (pc := 151) 1 dX5_map_151 rfl rfl ?_
    refine X_getfield (pc := 152) dX5_map_152 fg_X5_22_3 (XW.cv w4) (by first | rfl | assumption) ?_
    refine X_aload_n (pc := 155) 1 dX5_map_155 rfl rfl ?_
    refine X_getfield (pc := 156) dX5_map_156 fg_X5_53_3 (XW.cv w4) (by first | rfl | assumption) ?_
    refine X_aload_n (pc := 159) 1 dX5_map_159 rfl rfl ?_
    refine X_getfield (pc := 160) dX5_map_160 fg_X5_35_3 (XW.cv w4) (by first | rfl | assumption) ?_
    refine X_aload_n (pc := 163) 3 dX5_map_163 rfl rfl ?_
    refine X_getfield (pc := 164) dX5_map_164 fg_X5_108_5 (hP.c w4) (by first | rfl | assumption) ?_
    refine X_ivv (pc := 167) _ dX5_map_167 cv_X5_178_4 (MoK.ob (XW.mp w4) w4) rfl (xroot g w4 19 (P + 2) (w4.k 19 (by decide)) hP.2.2.2.1 (by omega) xb4) nX6_pow (Nat.le_of_ble_eq_true rfl) (Nat.le_of_ble_eq_true rfl) (Nat.le_of_ble_eq_true rfl) (Nat.le_of_ble_eq_true rfl) (fun h5 q5 => ?_)
    obtain ⟨R5, o5, v5, w5⟩ := q5
    rw [v4] at v5
    have fr5 : ∀ j, ecS P j = false → R5 j = R j := fun j hj => by
      have := ecS_ne hj
      rw [o5 j (by omega), fr4 j hj]
    have x5 : vm (R5 (P + 1)) = x1P c := by rw [o5 _ (by omega), o4 _ (by omega) (by omega)]; exact v3
    have g5 : vm (R5 19) = gx (x1P c) := by rw [o5 19 (by omega)]; exact v4
    have c5 : vm (R5 17) = c := by rw [o5 17 (by omega), o4 17 (by decide) (by decide)]; exact v17'
    refine X_aload_n (pc := 170) 1 dX5_map_170 rfl rfl ?_
    refine X_getfield (pc := 171) dX5_map_171 fg_X5_22_3 (XW.cv w5) (by first | rfl | assumption) ?_
    refine X_aload_n (pc := 174) 3 dX5_map_174 rfl rfl ?_
    refine X_getfield (pc := 175) dX5_map_175 fg_X5_108_5 (hP.c w5) (by first | rfl | assumption) ?_
    refine X_aload_n (pc := 178) 3 dX5_map_178 rfl rfl ?_
    refine X_getfield (pc := 179) dX5_map_179 fg_X5_108_5 (hP.c w5) (by first | rfl | assumption) ?_
    refine X_aload_n (pc := 182) 1 dX5_map_182 rfl rfl ?_
    refine X_getfield (pc := 183) dX5_map_183 fg_X5_56_3 (XW.cv w5) (by first | rfl | assumption) ?_
    refine X_ivv (pc := 186) _ dX5_map_186 cv_X5_140_4 (MoK.ob (XW.mp w5) w5) rfl (xmPr g w5 20 (P + 2) (P + 2) (St.p (w5.k 20 (by decide))) (Or.inl hP.2.2.2.1) (Or.inl hP.2.2.2.1)) nX6_mul (Nat.le_of_ble_eq_true rfl) (Nat.le_of_ble_eq_true rfl) (Nat.le_of_ble_eq_true rfl) (Nat.le_of_ble_eq_true rfl) (fun h6 q6 => ?_)
    have v6' := vx_M (k := 20) (⟨v5, w5.lt hP.2.2.2.1⟩ : vx R5 (P + 2) _) (⟨v5, w5.lt hP.2.2.2.1⟩ : vx R5 (P + 2) _)
    obtain ⟨R6, e6, o6, w6⟩ := XW.ab q6
    have v6 : vm (R6 20) = rt (gx (x1P c)) * rt (gx (x1P c)) := by rw [e6]; exact (congrArg vm (up_same _ _ _).symm).trans v6'.1
    have fr6 : ∀ j, ecS P j = false → R6 j = R j := fun j hj => by
      have := ecS_ne hj
      rw [o6 j (by omega), fr5 j hj]
    have g6 : vm (R6 19) = gx (x1P c) := by rw [o6 19 (by decide)]; exact g5
    have x6 : vm (R6 (P + 1)) = x1P c := by rw [o6 _ (by omega)]; exact x5
    have y6 : vm (R6 (P + 2)) = rt (gx (x1P c)) := by rw [o6 _ (by omega)]; exact v5
    refine X_aload_n (pc := 189) 1 dX5_map_189 rfl rfl ?_
    refine X_getfield (pc := 190) dX5_map_190 fg_X5_53_3 (XW.cv w6) (by first | rfl | assumption) ?_
    refine X_aload_n (pc := 193) 1 dX5_map_193 rfl rfl ?_
    refine X_getfield (pc := 194) dX5_map_194 fg_X5_56_3 (XW.cv w6) (by first | rfl | assumption) ?_
    refine X_isi (pc := 197) _ dX5_map_197 cs_X5_181 rfl (xcmpW g (OpX.n w6 19 (w6.k 19 (by decide))) (OpX.n w6 20 (w6.k 20 (by decide))) (by decide)) nX6_compare (Nat.le_of_ble_eq_true rfl) (Nat.le_of_ble_eq_true rfl) (Nat.le_of_ble_eq_true rfl) (Nat.le_of_ble_eq_true rfl) (fun r7 h7 q7 => ?_)
    obtain ⟨er, rfl⟩ := q7
    have hiff : r7 = 0 ↔ rt (gx (x1P c)) * rt (gx (x1P c)) = gx (x1P c) := by
      rw [er, cmpN_eq0, ← v6, ← g6]
      exact ⟨fun e => by rw [e], fun e => (vm_inj (w6.lt (w6.k 20 (by decide))) (w6.lt (w6.k 19 (by decide))) e).symm⟩
    by_cases hq : rt (gx (x1P c)) * rt (gx (x1P c)) = gx (x1P c)
    · refine X_if_eq (pc := 200) 253 dX5_map_200 (by decide) (fun _ => ?_) (fun e => absurd (hiff.mpr hq) e)
      refine tail _ _ R6 h7 (by decide) (by decide) w6 fr6 ?_
      unfold mapP
      rw [hc, if_pos hq, x6, y6]
    · refine X_if_eq (pc := 200) 253 dX5_map_200 (by decide) (fun e => absurd (hiff.mp e) hq) (fun _ => ?_)
      refine X_aload_n (pc := 203) 1 dX5_map_203 rfl rfl ?_
      refine X_getfield (pc := 204) dX5_map_204 fg_X5_22_3 (XW.cv w6) (by first | rfl | assumption) ?_
      refine X_aload_n (pc := 207) 3 dX5_map_207 rfl rfl ?_
      refine X_getfield (pc := 208) dX5_map_208 fg_X5_103_5 (hP.c w6) (by first | rfl | assumption) ?_
      refine X_aload_n (pc := 211) 1 dX5_map_211 rfl rfl ?_
      refine X_getfield (pc := 212) dX5_map_212 fg_X5_47_3 (XW.cv w6) (by first | rfl | assumption) ?_
      refine X_aload_n (pc := 215) 3 dX5_map_215 rfl rfl ?_
      refine X_getfield (pc := 216) dX5_map_216 fg_X5_103_5 (hP.c w6) (by first | rfl | assumption) ?_
      refine X_ivv (pc := 219) _ dX5_map_219 cv_X5_140_4 (MoK.ob (XW.mp w6) w6) rfl (xmPr g w6 (P + 1) (P + 1) 17 (St.p hP.2.2.1) (Or.inl hP.2.2.1) (Or.inl (w6.k 17 (by decide)))) nX6_mul (Nat.le_of_ble_eq_true rfl) (Nat.le_of_ble_eq_true rfl) (Nat.le_of_ble_eq_true rfl) (Nat.le_of_ble_eq_true rfl) (fun h8 q8 => ?_)
      have v8' := vx_M (k := P + 1) (⟨x6, w6.lt hP.2.2.1⟩ : vx R6 (P + 1) _) (⟨(congrArg vm (o6 17 (by decide))).trans c5, w6.lt (w6.k 17 (by decide))⟩ : vx R6 17 _)
      obtain ⟨R8, e8, o8, w8⟩ := XW.ab q8
      have v8 : vm (R8 (P + 1)) = c * x1P c := by rw [e8]; exact ((congrArg vm (up_same _ _ _).symm).trans v8'.1).trans (fx1 _ _)
      have fr8 : ∀ j, ecS P j = false → R8 j = R j := fun j hj => by
        have := ecS_ne hj
        rw [o8 j (by omega), fr6 j hj]
      have xb8 : XB R8 := xb.fr fun j hj => fr8 j (ecS_f (by omega) (by omega) (by omega) (by omega))
      refine X_aload_n (pc := 222) 1 dX5_map_222 rfl rfl ?_
      refine X_aload_n (pc := 223) 3 dX5_map_223 rfl rfl ?_
      refine X_getfield (pc := 224) dX5_map_224 fg_X5_103_5 (hP.c w8) (by first | rfl | assumption) ?_
      refine X_aload_n (pc := 227) 1 dX5_map_227 rfl rfl ?_
      refine X_getfield (pc := 228) dX5_map_228 fg_X5_53_3 (XW.cv w8) (by first | rfl | assumption) ?_
      refine X_ivv (pc := 231) _ dX5_map_231 cv_X5_175_3 (XW.cv w8) rfl (square_ok g w8 (P + 1) 19 hP.2.2.1 (w8.k 19 (by decide)) (by omega) xb8) nX5_square (Nat.le_of_ble_eq_true rfl) (Nat.le_of_ble_eq_true rfl) (Nat.le_of_ble_eq_true rfl) (Nat.le_of_ble_eq_true rfl) (fun h9 q9 => ?_)
      obtain ⟨R9, o9, v9, w9⟩ := q9
      rw [v8] at v9
      have fr9 : ∀ j, ecS P j = false → R9 j = R j := fun j hj => by
        have := ecS_ne hj
        rw [o9 j (by omega) (by omega), fr8 j hj]
      have xb9 : XB R9 := xb.fr fun j hj => fr9 j (ecS_f (by omega) (by omega) (by omega) (by omega))
      refine X_aload_n (pc := 234) 1 dX5_map_234 rfl rfl ?_
      refine X_getfield (pc := 235) dX5_map_235 fg_X5_22_3 (XW.cv w9) (by first | rfl | assumption) ?_
      refine X_aload_n (pc := 238) 1 dX5_map_238 rfl rfl ?_
      refine X_getfield (pc := 239) dX5_map_239 fg_X5_53_3 (XW.cv w9) (by first | rfl | assumption) ?_
      refine X_aload_n (pc := 242) 1 dX5_map_242 rfl rfl ?_
      refine X_getfield (pc := 243) dX5_map_243 fg_X5_35_3 (XW.cv w9) (by first | rfl | assumption) ?_
      refine X_aload_n (pc := 246) 3 dX5_map_246 rfl rfl ?_
      refine X_getfield (pc := 247) dX5_map_247 fg_X5_108_5 (hP.c w9) (by first | rfl | assumption) ?_
      refine X_ivv (pc := 250) _ dX5_map_250 cv_X5_178_4 (MoK.ob (XW.mp w9) w9) rfl (xroot g w9 19 (P + 2) (w9.k 19 (by decide)) hP.2.2.2.1 (by omega) xb9) nX6_pow (Nat.le_of_ble_eq_true rfl) (Nat.le_of_ble_eq_true rfl) (Nat.le_of_ble_eq_true rfl) (Nat.le_of_ble_eq_true rfl) (fun h10 q10 => ?_)
      obtain ⟨R10, o10, v10, w10⟩ := q10
      rw [v9] at v10
      refine tail _ _ R10 h10 (by decide) (by decide) w10 (fun j hj => ?_) ?_
      · have := ecS_ne hj
        rw [o10 j (by omega), fr9 j hj]
      · unfold mapP
        rw [hc, if_neg hq, v10, o10 _ (by omega), o9 _ (by omega) (by omega), v8]
  refine X_aload_n (pc := 0) 0 dX5_map_0 rfl rfl ?_
  refine X_getfield (pc := 1) dX5_map_1 fg_X5_22_3 (XW.cv w) (by first | rfl | assumption) ?_
  refine X_aload_n (pc := 4) 0 dX5_map_4 rfl rfl ?_
  refine X_getfield (pc := 5) dX5_map_5 fg_X5_81_3 (XW.cv w) (by first | rfl | assumption) ?_
  refine X_iload_n (pc := 8) 1 dX5_map_8 rfl rfl ?_
  refine X_bipush (pc := 9) (x := 72) dX5_map_9 (by decide) ?_
  refine X_aload_n (pc := 11) 0 dX5_map_11 rfl rfl ?_
  refine X_getfield (pc := 12) dX5_map_12 fg_X5_44_3 (XW.cv w) (by first | rfl | assumption) ?_
  refine X_ivv (pc := 15) _ dX5_map_15 cv_X5_239_4 (MoK.ob (XW.mp w) w) rfl (xrestW g w w.mp 16 (St.q (w.k 16 (by decide))) (kb := 24) (nb := 144) (many := 72) (w.k 24 (by decide)) (by decide) hl) nX6_rest (Nat.le_of_ble_eq_true rfl) (Nat.le_of_ble_eq_true rfl) (Nat.le_of_ble_eq_true rfl) (Nat.le_of_ble_eq_true rfl) (fun h1 q1 => ?_)
  rw [← huv] at q1
  obtain ⟨R1, e1, o1, w1⟩ := XW.ab q1
  obtain ⟨f16, c16, v16⟩ := w1.n2 16 (w1.k 16 (by decide))
  have fr1 : ∀ j, ecS P j = false → R1 j = R j := fun j hj => by
    have := ecS_ne hj
    exact o1 j (by omega)
  refine X_aload_n (pc := 18) 0 dX5_map_18 rfl rfl ?_
  refine X_getfield (pc := 19) dX5_map_19 fg_X5_44_3 (XW.cv w1) (by first | rfl | assumption) ?_
  refine X_iconst (pc := 22) (x := 0) dX5_map_22 (by decide) ?_
  refine X_iaload (pc := 23) dX5_map_23 c16 (vp_in_nI (n := 0) (by decide) (by decide)) ?_
  refine X_iconst (pc := 24) (x := 1) dX5_map_24 (by decide) ?_
  refine X_iand (pc := 25) dX5_map_25 ?_
  rw [show f16 ((0 : Int32).toNatClampNeg) &&& 1 = nI (u % 2) by rw [show (0 : Int32).toNatClampNeg = 0 from rfl, V_odd (n := 12) (by decide), v16, e1]]
  refine X_iconst (pc := 26) (x := 1) dX5_map_26 (by decide) ?_
  have h01 : u % 2 = 0 ∨ u % 2 = 1 := by omega
  rcases h01 with e | e
  · rw [e]
    refine X_icmp_ne (pc := 27) 34 dX5_map_27 (by decide) (fun _ => ?_) (fun c => absurd c (by decide))
    refine X_iconst (pc := 34) (x := 0) dX5_map_34 (by decide) ?_
    refine X_istore_n (pc := 35) (L' := [(3, .int _), (0, .ref _), (1, .int _), (2, .ref _)]) dX5_map_35 rfl (Nat.le_of_ble_eq_true rfl) rfl ?_
    have := mid R1 h1 w1 fr1 e1
    rw [e] at this
    exact this
  · rw [e]
    refine X_icmp_ne (pc := 27) 34 dX5_map_27 (by decide) (fun c => absurd rfl c) (fun _ => ?_)
    refine X_iconst (pc := 30) (x := 1) dX5_map_30 (by decide) ?_
    refine X_goto (pc := 31) 35 dX5_map_31 (by decide) ?_
    refine X_istore_n (pc := 35) (L' := [(3, .int _), (0, .ref _), (1, .int _), (2, .ref _)]) dX5_map_35 rfl (Nat.le_of_ble_eq_true rfl) rfl ?_
    have := mid R1 h1 w1 fr1 e1
    rw [e] at this
    exact this
end XPt
