set_option maxRecDepth 100000
/-! VeilMint's curve: twice, add, times -/
def PtV (R : Nat → Nat) (P : Nat) (Pt : PP) : Prop := Jc (vm (R (P + 1))) (vm (R (P + 2))) (vm (R (P + 3))) Pt
def ecS (P j : Nat) : Bool := decide (16 ≤ j) && decide (j ≤ 23) || (j == P + 1 || (j == P + 2 || j == P + 3))
theorem ecS_ne {P j : Nat} (h : ecS P j = false) : ¬ (16 ≤ j ∧ j ≤ 23) ∧ j ≠ P + 1 ∧ j ≠ P + 2 ∧ j ≠ P + 3 := by
  unfold ecS at h
  simp only [Bool.or_eq_false_iff, Bool.and_eq_false_iff, decide_eq_false_iff_not, beq_eq_false_iff_ne] at h
  omega
theorem ecS_f {P j : Nat} (h : ¬ (16 ≤ j ∧ j ≤ 23)) (h1 : j ≠ P + 1) (h2 : j ≠ P + 2) (h3 : j ≠ P + 3) : ecS P j = false := by
  unfold ecS
  simp only [Bool.or_eq_false_iff, Bool.and_eq_false_iff, decide_eq_false_iff_not, beq_eq_false_iff_ne]
  omega
theorem Jc.none0 {X Y Z : Fp} {P : PP} (h : Jc X Y Z P) (h0 : Z = 0) : P = none := by
  match P, h with
  | none, _ => rfl
  | some (x, y), h => exact absurd h0 h.1
noncomputable def twR (P : Nat) (R : Nat → Nat) : Nat → Nat := rSub (P + 2) (P + 2) 17 (rMx (P + 2) 19 18 (rAdd 17 17 17 (rAdd 17 17 17 (rAdd 17 17 17 (rMx 17 17 17 (rSub 18 18 (P + 1) (rSub (P + 1) (P + 1) 18 (rSub (P + 1) (P + 1) 18 (rMx (P + 1) 19 19 (rAdd 18 18 18 (rAdd 18 18 18 (rSub (P + 3) 20 16 (rSub 20 20 17 (rMx 20 20 20 (rAdd 20 (P + 2) (P + 3) (rMx 19 19 15 (rMx 19 19 20 (rAdd 20 (P + 1) 16 (rSub 19 (P + 1) 16 (rMx 18 (P + 1) 17 (rMx 17 (P + 2) (P + 2) (rMx 16 (P + 3) (P + 3) R))))))))))))))))))))))
theorem twR_o {R : Nat → Nat} {j P : Nat} (h16 : j ≠ 16) (h17 : j ≠ 17) (h18 : j ≠ 18) (h19 : j ≠ 19) (h20 : j ≠ 20) (hPp3 : j ≠ (P + 3)) (hPp1 : j ≠ (P + 1)) (hPp2 : j ≠ (P + 2)) : twR P R j = R j := by
  unfold twR
  exact (up_ne hPp2).trans ((up_ne hPp2).trans ((up_ne h17).trans ((up_ne h17).trans ((up_ne h17).trans ((up_ne h17).trans ((up_ne h18).trans ((up_ne hPp1).trans ((up_ne hPp1).trans ((up_ne hPp1).trans ((up_ne h18).trans ((up_ne h18).trans ((up_ne hPp3).trans ((up_ne h20).trans ((up_ne h20).trans ((up_ne h20).trans ((up_ne h19).trans ((up_ne h19).trans ((up_ne h20).trans ((up_ne h19).trans ((up_ne h18).trans ((up_ne h17).trans (up_ne h16))))))))))))))))))))))
theorem twR_v {R : Nat → Nat} {P : Nat} {x15 xPp1 xPp2 xPp3 : Fp} (hP60 : 60 ≤ P) (t0_15 : vx R 15 x15) (t0_Pp1 : vx R (P + 1) xPp1) (t0_Pp2 : vx R (P + 2) xPp2) (t0_Pp3 : vx R (P + 3) xPp3) : vx (twR P R) (P + 1) ((((((xPp1 - (xPp3 * xPp3)) * (xPp1 + (xPp3 * xPp3))) * x15) * (((xPp1 - (xPp3 * xPp3)) * (xPp1 + (xPp3 * xPp3))) * x15)) - (((xPp1 * (xPp2 * xPp2)) + (xPp1 * (xPp2 * xPp2))) + ((xPp1 * (xPp2 * xPp2)) + (xPp1 * (xPp2 * xPp2))))) - (((xPp1 * (xPp2 * xPp2)) + (xPp1 * (xPp2 * xPp2))) + ((xPp1 * (xPp2 * xPp2)) + (xPp1 * (xPp2 * xPp2))))) ∧ vx (twR P R) (P + 2) (((((xPp1 - (xPp3 * xPp3)) * (xPp1 + (xPp3 * xPp3))) * x15) * ((((xPp1 * (xPp2 * xPp2)) + (xPp1 * (xPp2 * xPp2))) + ((xPp1 * (xPp2 * xPp2)) + (xPp1 * (xPp2 * xPp2)))) - ((((((xPp1 - (xPp3 * xPp3)) * (xPp1 + (xPp3 * xPp3))) * x15) * (((xPp1 - (xPp3 * xPp3)) * (xPp1 + (xPp3 * xPp3))) * x15)) - (((xPp1 * (xPp2 * xPp2)) + (xPp1 * (xPp2 * xPp2))) + ((xPp1 * (xPp2 * xPp2)) + (xPp1 * (xPp2 * xPp2))))) - (((xPp1 * (xPp2 * xPp2)) + (xPp1 * (xPp2 * xPp2))) + ((xPp1 * (xPp2 * xPp2)) + (xPp1 * (xPp2 * xPp2))))))) - (((((xPp2 * xPp2) * (xPp2 * xPp2)) + ((xPp2 * xPp2) * (xPp2 * xPp2))) + (((xPp2 * xPp2) * (xPp2 * xPp2)) + ((xPp2 * xPp2) * (xPp2 * xPp2)))) + ((((xPp2 * xPp2) * (xPp2 * xPp2)) + ((xPp2 * xPp2) * (xPp2 * xPp2))) + (((xPp2 * xPp2) * (xPp2 * xPp2)) + ((xPp2 * xPp2) * (xPp2 * xPp2)))))) ∧ vx (twR P R) (P + 3) ((((xPp2 + xPp3) * (xPp2 + xPp3)) - (xPp2 * xPp2)) - (xPp3 * xPp3)) := by
  have t1_15 := vx_Mo (k := 16) (a := (P + 3)) (b := (P + 3)) t0_15 (by omega)
  have t1_Pp1 := vx_Mo (k := 16) (a := (P + 3)) (b := (P + 3)) t0_Pp1 (by omega)
  have t1_Pp2 := vx_Mo (k := 16) (a := (P + 3)) (b := (P + 3)) t0_Pp2 (by omega)
  have t1_Pp3 := vx_Mo (k := 16) (a := (P + 3)) (b := (P + 3)) t0_Pp3 (by omega)
  have t1_16 := vx_M (k := 16) t0_Pp3 t0_Pp3
  have t2_15 := vx_Mo (k := 17) (a := (P + 2)) (b := (P + 2)) t1_15 (by omega)
  have t2_Pp1 := vx_Mo (k := 17) (a := (P + 2)) (b := (P + 2)) t1_Pp1 (by omega)
  have t2_Pp2 := vx_Mo (k := 17) (a := (P + 2)) (b := (P + 2)) t1_Pp2 (by omega)
  have t2_Pp3 := vx_Mo (k := 17) (a := (P + 2)) (b := (P + 2)) t1_Pp3 (by omega)
  have t2_16 := vx_Mo (k := 17) (a := (P + 2)) (b := (P + 2)) t1_16 (by omega)
  have t2_17 := vx_M (k := 17) t1_Pp2 t1_Pp2
  have t3_15 := vx_Mo (k := 18) (a := (P + 1)) (b := 17) t2_15 (by omega)
  have t3_Pp1 := vx_Mo (k := 18) (a := (P + 1)) (b := 17) t2_Pp1 (by omega)
  have t3_Pp2 := vx_Mo (k := 18) (a := (P + 1)) (b := 17) t2_Pp2 (by omega)
  have t3_Pp3 := vx_Mo (k := 18) (a := (P + 1)) (b := 17) t2_Pp3 (by omega)
  have t3_16 := vx_Mo (k := 18) (a := (P + 1)) (b := 17) t2_16 (by omega)
  have t3_17 := vx_Mo (k := 18) (a := (P + 1)) (b := 17) t2_17 (by omega)
  have t3_18 := vx_M (k := 18) t2_Pp1 t2_17
  have t4_15 := vx_So (k := 19) (a := (P + 1)) (b := 16) t3_15 (by omega)
  have t4_Pp1 := vx_So (k := 19) (a := (P + 1)) (b := 16) t3_Pp1 (by omega)
  have t4_Pp2 := vx_So (k := 19) (a := (P + 1)) (b := 16) t3_Pp2 (by omega)
  have t4_Pp3 := vx_So (k := 19) (a := (P + 1)) (b := 16) t3_Pp3 (by omega)
  have t4_16 := vx_So (k := 19) (a := (P + 1)) (b := 16) t3_16 (by omega)
  have t4_17 := vx_So (k := 19) (a := (P + 1)) (b := 16) t3_17 (by omega)
  have t4_18 := vx_So (k := 19) (a := (P + 1)) (b := 16) t3_18 (by omega)
  have t4_19 := vx_S (k := 19) t3_Pp1 t3_16
  have t5_15 := vx_Ao (k := 20) (a := (P + 1)) (b := 16) t4_15 (by omega)
  have t5_Pp1 := vx_Ao (k := 20) (a := (P + 1)) (b := 16) t4_Pp1 (by omega)
  have t5_Pp2 := vx_Ao (k := 20) (a := (P + 1)) (b := 16) t4_Pp2 (by omega)
  have t5_Pp3 := vx_Ao (k := 20) (a := (P + 1)) (b := 16) t4_Pp3 (by omega)
  have t5_16 := vx_Ao (k := 20) (a := (P + 1)) (b := 16) t4_16 (by omega)
  have t5_17 := vx_Ao (k := 20) (a := (P + 1)) (b := 16) t4_17 (by omega)
  have t5_18 := vx_Ao (k := 20) (a := (P + 1)) (b := 16) t4_18 (by omega)
  have t5_19 := vx_Ao (k := 20) (a := (P + 1)) (b := 16) t4_19 (by omega)
  have t5_20 := vx_A (k := 20) t4_Pp1 t4_16
  have t6_15 := vx_Mo (k := 19) (a := 19) (b := 20) t5_15 (by omega)
  have t6_Pp1 := vx_Mo (k := 19) (a := 19) (b := 20) t5_Pp1 (by omega)
  have t6_Pp2 := vx_Mo (k := 19) (a := 19) (b := 20) t5_Pp2 (by omega)
  have t6_Pp3 := vx_Mo (k := 19) (a := 19) (b := 20) t5_Pp3 (by omega)
  have t6_16 := vx_Mo (k := 19) (a := 19) (b := 20) t5_16 (by omega)
  have t6_17 := vx_Mo (k := 19) (a := 19) (b := 20) t5_17 (by omega)
  have t6_18 := vx_Mo (k := 19) (a := 19) (b := 20) t5_18 (by omega)
  have t6_20 := vx_Mo (k := 19) (a := 19) (b := 20) t5_20 (by omega)
  have t6_19 := vx_M (k := 19) t5_19 t5_20
  have t7_15 := vx_Mo (k := 19) (a := 19) (b := 15) t6_15 (by omega)
  have t7_Pp1 := vx_Mo (k := 19) (a := 19) (b := 15) t6_Pp1 (by omega)
  have t7_Pp2 := vx_Mo (k := 19) (a := 19) (b := 15) t6_Pp2 (by omega)
  have t7_Pp3 := vx_Mo (k := 19) (a := 19) (b := 15) t6_Pp3 (by omega)
  have t7_16 := vx_Mo (k := 19) (a := 19) (b := 15) t6_16 (by omega)
  have t7_17 := vx_Mo (k := 19) (a := 19) (b := 15) t6_17 (by omega)
  have t7_18 := vx_Mo (k := 19) (a := 19) (b := 15) t6_18 (by omega)
  have t7_20 := vx_Mo (k := 19) (a := 19) (b := 15) t6_20 (by omega)
  have t7_19 := vx_M (k := 19) t6_19 t6_15
  have t8_15 := vx_Ao (k := 20) (a := (P + 2)) (b := (P + 3)) t7_15 (by omega)
  have t8_Pp1 := vx_Ao (k := 20) (a := (P + 2)) (b := (P + 3)) t7_Pp1 (by omega)
  have t8_Pp2 := vx_Ao (k := 20) (a := (P + 2)) (b := (P + 3)) t7_Pp2 (by omega)
  have t8_Pp3 := vx_Ao (k := 20) (a := (P + 2)) (b := (P + 3)) t7_Pp3 (by omega)
  have t8_16 := vx_Ao (k := 20) (a := (P + 2)) (b := (P + 3)) t7_16 (by omega)
  have t8_17 := vx_Ao (k := 20) (a := (P + 2)) (b := (P + 3)) t7_17 (by omega)
  have t8_18 := vx_Ao (k := 20) (a := (P + 2)) (b := (P + 3)) t7_18 (by omega)
  have t8_19 := vx_Ao (k := 20) (a := (P + 2)) (b := (P + 3)) t7_19 (by omega)
  have t8_20 := vx_A (k := 20) t7_Pp2 t7_Pp3
  have t9_15 := vx_Mo (k := 20) (a := 20) (b := 20) t8_15 (by omega)
  have t9_Pp1 := vx_Mo (k := 20) (a := 20) (b := 20) t8_Pp1 (by omega)
  have t9_Pp2 := vx_Mo (k := 20) (a := 20) (b := 20) t8_Pp2 (by omega)
  have t9_Pp3 := vx_Mo (k := 20) (a := 20) (b := 20) t8_Pp3 (by omega)
  have t9_16 := vx_Mo (k := 20) (a := 20) (b := 20) t8_16 (by omega)
  have t9_17 := vx_Mo (k := 20) (a := 20) (b := 20) t8_17 (by omega)
  have t9_18 := vx_Mo (k := 20) (a := 20) (b := 20) t8_18 (by omega)
  have t9_19 := vx_Mo (k := 20) (a := 20) (b := 20) t8_19 (by omega)
  have t9_20 := vx_M (k := 20) t8_20 t8_20
  have t10_15 := vx_So (k := 20) (a := 20) (b := 17) t9_15 (by omega)
  have t10_Pp1 := vx_So (k := 20) (a := 20) (b := 17) t9_Pp1 (by omega)
  have t10_Pp2 := vx_So (k := 20) (a := 20) (b := 17) t9_Pp2 (by omega)
  have t10_Pp3 := vx_So (k := 20) (a := 20) (b := 17) t9_Pp3 (by omega)
  have t10_16 := vx_So (k := 20) (a := 20) (b := 17) t9_16 (by omega)
  have t10_17 := vx_So (k := 20) (a := 20) (b := 17) t9_17 (by omega)
  have t10_18 := vx_So (k := 20) (a := 20) (b := 17) t9_18 (by omega)
  have t10_19 := vx_So (k := 20) (a := 20) (b := 17) t9_19 (by omega)
  have t10_20 := vx_S (k := 20) t9_20 t9_17
  have t11_15 := vx_So (k := (P + 3)) (a := 20) (b := 16) t10_15 (by omega)
  have t11_Pp1 := vx_So (k := (P + 3)) (a := 20) (b := 16) t10_Pp1 (by omega)
  have t11_Pp2 := vx_So (k := (P + 3)) (a := 20) (b := 16) t10_Pp2 (by omega)
  have t11_16 := vx_So (k := (P + 3)) (a := 20) (b := 16) t10_16 (by omega)
  have t11_17 := vx_So (k := (P + 3)) (a := 20) (b := 16) t10_17 (by omega)
  have t11_18 := vx_So (k := (P + 3)) (a := 20) (b := 16) t10_18 (by omega)
  have t11_19 := vx_So (k := (P + 3)) (a := 20) (b := 16) t10_19 (by omega)
  have t11_20 := vx_So (k := (P + 3)) (a := 20) (b := 16) t10_20 (by omega)
  have t11_Pp3 := vx_S (k := (P + 3)) t10_20 t10_16
  have t12_15 := vx_Ao (k := 18) (a := 18) (b := 18) t11_15 (by omega)
  have t12_Pp1 := vx_Ao (k := 18) (a := 18) (b := 18) t11_Pp1 (by omega)
  have t12_Pp2 := vx_Ao (k := 18) (a := 18) (b := 18) t11_Pp2 (by omega)
  have t12_Pp3 := vx_Ao (k := 18) (a := 18) (b := 18) t11_Pp3 (by omega)
  have t12_16 := vx_Ao (k := 18) (a := 18) (b := 18) t11_16 (by omega)
  have t12_17 := vx_Ao (k := 18) (a := 18) (b := 18) t11_17 (by omega)
  have t12_19 := vx_Ao (k := 18) (a := 18) (b := 18) t11_19 (by omega)
  have t12_20 := vx_Ao (k := 18) (a := 18) (b := 18) t11_20 (by omega)
  have t12_18 := vx_A (k := 18) t11_18 t11_18
  have t13_15 := vx_Ao (k := 18) (a := 18) (b := 18) t12_15 (by omega)
  have t13_Pp1 := vx_Ao (k := 18) (a := 18) (b := 18) t12_Pp1 (by omega)
  have t13_Pp2 := vx_Ao (k := 18) (a := 18) (b := 18) t12_Pp2 (by omega)
  have t13_Pp3 := vx_Ao (k := 18) (a := 18) (b := 18) t12_Pp3 (by omega)
  have t13_16 := vx_Ao (k := 18) (a := 18) (b := 18) t12_16 (by omega)
  have t13_17 := vx_Ao (k := 18) (a := 18) (b := 18) t12_17 (by omega)
  have t13_19 := vx_Ao (k := 18) (a := 18) (b := 18) t12_19 (by omega)
  have t13_20 := vx_Ao (k := 18) (a := 18) (b := 18) t12_20 (by omega)
  have t13_18 := vx_A (k := 18) t12_18 t12_18
  have t14_15 := vx_Mo (k := (P + 1)) (a := 19) (b := 19) t13_15 (by omega)
  have t14_Pp2 := vx_Mo (k := (P + 1)) (a := 19) (b := 19) t13_Pp2 (by omega)
  have t14_Pp3 := vx_Mo (k := (P + 1)) (a := 19) (b := 19) t13_Pp3 (by omega)
  have t14_16 := vx_Mo (k := (P + 1)) (a := 19) (b := 19) t13_16 (by omega)
  have t14_17 := vx_Mo (k := (P + 1)) (a := 19) (b := 19) t13_17 (by omega)
  have t14_18 := vx_Mo (k := (P + 1)) (a := 19) (b := 19) t13_18 (by omega)
  have t14_19 := vx_Mo (k := (P + 1)) (a := 19) (b := 19) t13_19 (by omega)
  have t14_20 := vx_Mo (k := (P + 1)) (a := 19) (b := 19) t13_20 (by omega)
  have t14_Pp1 := vx_M (k := (P + 1)) t13_19 t13_19
  have t15_15 := vx_So (k := (P + 1)) (a := (P + 1)) (b := 18) t14_15 (by omega)
  have t15_Pp2 := vx_So (k := (P + 1)) (a := (P + 1)) (b := 18) t14_Pp2 (by omega)
  have t15_Pp3 := vx_So (k := (P + 1)) (a := (P + 1)) (b := 18) t14_Pp3 (by omega)
  have t15_16 := vx_So (k := (P + 1)) (a := (P + 1)) (b := 18) t14_16 (by omega)
  have t15_17 := vx_So (k := (P + 1)) (a := (P + 1)) (b := 18) t14_17 (by omega)
  have t15_18 := vx_So (k := (P + 1)) (a := (P + 1)) (b := 18) t14_18 (by omega)
  have t15_19 := vx_So (k := (P + 1)) (a := (P + 1)) (b := 18) t14_19 (by omega)
  have t15_20 := vx_So (k := (P + 1)) (a := (P + 1)) (b := 18) t14_20 (by omega)
  have t15_Pp1 := vx_S (k := (P + 1)) t14_Pp1 t14_18
  have t16_15 := vx_So (k := (P + 1)) (a := (P + 1)) (b := 18) t15_15 (by omega)
  have t16_Pp2 := vx_So (k := (P + 1)) (a := (P + 1)) (b := 18) t15_Pp2 (by omega)
  have t16_Pp3 := vx_So (k := (P + 1)) (a := (P + 1)) (b := 18) t15_Pp3 (by omega)
  have t16_16 := vx_So (k := (P + 1)) (a := (P + 1)) (b := 18) t15_16 (by omega)
  have t16_17 := vx_So (k := (P + 1)) (a := (P + 1)) (b := 18) t15_17 (by omega)
  have t16_18 := vx_So (k := (P + 1)) (a := (P + 1)) (b := 18) t15_18 (by omega)
  have t16_19 := vx_So (k := (P + 1)) (a := (P + 1)) (b := 18) t15_19 (by omega)
  have t16_20 := vx_So (k := (P + 1)) (a := (P + 1)) (b := 18) t15_20 (by omega)
  have t16_Pp1 := vx_S (k := (P + 1)) t15_Pp1 t15_18
  have t17_15 := vx_So (k := 18) (a := 18) (b := (P + 1)) t16_15 (by omega)
  have t17_Pp1 := vx_So (k := 18) (a := 18) (b := (P + 1)) t16_Pp1 (by omega)
  have t17_Pp2 := vx_So (k := 18) (a := 18) (b := (P + 1)) t16_Pp2 (by omega)
  have t17_Pp3 := vx_So (k := 18) (a := 18) (b := (P + 1)) t16_Pp3 (by omega)
  have t17_16 := vx_So (k := 18) (a := 18) (b := (P + 1)) t16_16 (by omega)
  have t17_17 := vx_So (k := 18) (a := 18) (b := (P + 1)) t16_17 (by omega)
  have t17_19 := vx_So (k := 18) (a := 18) (b := (P + 1)) t16_19 (by omega)
  have t17_20 := vx_So (k := 18) (a := 18) (b := (P + 1)) t16_20 (by omega)
  have t17_18 := vx_S (k := 18) t16_18 t16_Pp1
  have t18_15 := vx_Mo (k := 17) (a := 17) (b := 17) t17_15 (by omega)
  have t18_Pp1 := vx_Mo (k := 17) (a := 17) (b := 17) t17_Pp1 (by omega)
  have t18_Pp2 := vx_Mo (k := 17) (a := 17) (b := 17) t17_Pp2 (by omega)
  have t18_Pp3 := vx_Mo (k := 17) (a := 17) (b := 17) t17_Pp3 (by omega)
  have t18_16 := vx_Mo (k := 17) (a := 17) (b := 17) t17_16 (by omega)
  have t18_18 := vx_Mo (k := 17) (a := 17) (b := 17) t17_18 (by omega)
  have t18_19 := vx_Mo (k := 17) (a := 17) (b := 17) t17_19 (by omega)
  have t18_20 := vx_Mo (k := 17) (a := 17) (b := 17) t17_20 (by omega)
  have t18_17 := vx_M (k := 17) t17_17 t17_17
  have t19_15 := vx_Ao (k := 17) (a := 17) (b := 17) t18_15 (by omega)
  have t19_Pp1 := vx_Ao (k := 17) (a := 17) (b := 17) t18_Pp1 (by omega)
  have t19_Pp2 := vx_Ao (k := 17) (a := 17) (b := 17) t18_Pp2 (by omega)
  have t19_Pp3 := vx_Ao (k := 17) (a := 17) (b := 17) t18_Pp3 (by omega)
  have t19_16 := vx_Ao (k := 17) (a := 17) (b := 17) t18_16 (by omega)
  have t19_18 := vx_Ao (k := 17) (a := 17) (b := 17) t18_18 (by omega)
  have t19_19 := vx_Ao (k := 17) (a := 17) (b := 17) t18_19 (by omega)
  have t19_20 := vx_Ao (k := 17) (a := 17) (b := 17) t18_20 (by omega)
  have t19_17 := vx_A (k := 17) t18_17 t18_17
  have t20_15 := vx_Ao (k := 17) (a := 17) (b := 17) t19_15 (by omega)
  have t20_Pp1 := vx_Ao (k := 17) (a := 17) (b := 17) t19_Pp1 (by omega)
  have t20_Pp2 := vx_Ao (k := 17) (a := 17) (b := 17) t19_Pp2 (by omega)
  have t20_Pp3 := vx_Ao (k := 17) (a := 17) (b := 17) t19_Pp3 (by omega)
  have t20_16 := vx_Ao (k := 17) (a := 17) (b := 17) t19_16 (by omega)
  have t20_18 := vx_Ao (k := 17) (a := 17) (b := 17) t19_18 (by omega)
  have t20_19 := vx_Ao (k := 17) (a := 17) (b := 17) t19_19 (by omega)
  have t20_20 := vx_Ao (k := 17) (a := 17) (b := 17) t19_20 (by omega)
  have t20_17 := vx_A (k := 17) t19_17 t19_17
  have t21_15 := vx_Ao (k := 17) (a := 17) (b := 17) t20_15 (by omega)
  have t21_Pp1 := vx_Ao (k := 17) (a := 17) (b := 17) t20_Pp1 (by omega)
  have t21_Pp2 := vx_Ao (k := 17) (a := 17) (b := 17) t20_Pp2 (by omega)
  have t21_Pp3 := vx_Ao (k := 17) (a := 17) (b := 17) t20_Pp3 (by omega)
  have t21_16 := vx_Ao (k := 17) (a := 17) (b := 17) t20_16 (by omega)
  have t21_18 := vx_Ao (k := 17) (a := 17) (b := 17) t20_18 (by omega)
  have t21_19 := vx_Ao (k := 17) (a := 17) (b := 17) t20_19 (by omega)
  have t21_20 := vx_Ao (k := 17) (a := 17) (b := 17) t20_20 (by omega)
  have t21_17 := vx_A (k := 17) t20_17 t20_17
  have t22_15 := vx_Mo (k := (P + 2)) (a := 19) (b := 18) t21_15 (by omega)
  have t22_Pp1 := vx_Mo (k := (P + 2)) (a := 19) (b := 18) t21_Pp1 (by omega)
  have t22_Pp3 := vx_Mo (k := (P + 2)) (a := 19) (b := 18) t21_Pp3 (by omega)
  have t22_16 := vx_Mo (k := (P + 2)) (a := 19) (b := 18) t21_16 (by omega)
  have t22_17 := vx_Mo (k := (P + 2)) (a := 19) (b := 18) t21_17 (by omega)
  have t22_18 := vx_Mo (k := (P + 2)) (a := 19) (b := 18) t21_18 (by omega)
  have t22_19 := vx_Mo (k := (P + 2)) (a := 19) (b := 18) t21_19 (by omega)
  have t22_20 := vx_Mo (k := (P + 2)) (a := 19) (b := 18) t21_20 (by omega)
  have t22_Pp2 := vx_M (k := (P + 2)) t21_19 t21_18
  have t23_15 := vx_So (k := (P + 2)) (a := (P + 2)) (b := 17) t22_15 (by omega)
  have t23_Pp1 := vx_So (k := (P + 2)) (a := (P + 2)) (b := 17) t22_Pp1 (by omega)
  have t23_Pp3 := vx_So (k := (P + 2)) (a := (P + 2)) (b := 17) t22_Pp3 (by omega)
  have t23_16 := vx_So (k := (P + 2)) (a := (P + 2)) (b := 17) t22_16 (by omega)
  have t23_17 := vx_So (k := (P + 2)) (a := (P + 2)) (b := 17) t22_17 (by omega)
  have t23_18 := vx_So (k := (P + 2)) (a := (P + 2)) (b := 17) t22_18 (by omega)
  have t23_19 := vx_So (k := (P + 2)) (a := (P + 2)) (b := 17) t22_19 (by omega)
  have t23_20 := vx_So (k := (P + 2)) (a := (P + 2)) (b := 17) t22_20 (by omega)
  have t23_Pp2 := vx_S (k := (P + 2)) t22_Pp2 t22_17
  exact ⟨t23_Pp1, t23_Pp2, t23_Pp3⟩
theorem twR_x {F : Type} [Lean.Grind.CommRing F] (xPp1 xPp2 xPp3 : F) : ((((((xPp1 - (xPp3 * xPp3)) * (xPp1 + (xPp3 * xPp3))) * 3) * (((xPp1 - (xPp3 * xPp3)) * (xPp1 + (xPp3 * xPp3))) * 3)) - (((xPp1 * (xPp2 * xPp2)) + (xPp1 * (xPp2 * xPp2))) + ((xPp1 * (xPp2 * xPp2)) + (xPp1 * (xPp2 * xPp2))))) - (((xPp1 * (xPp2 * xPp2)) + (xPp1 * (xPp2 * xPp2))) + ((xPp1 * (xPp2 * xPp2)) + (xPp1 * (xPp2 * xPp2))))) = (3 * ((xPp1 - xPp3 * xPp3) * (xPp1 + xPp3 * xPp3))) * (3 * ((xPp1 - xPp3 * xPp3) * (xPp1 + xPp3 * xPp3))) - 4 * (xPp1 * (xPp2 * xPp2)) - 4 * (xPp1 * (xPp2 * xPp2)) := by grind
theorem twR_y {F : Type} [Lean.Grind.CommRing F] (xPp1 xPp2 xPp3 : F) : (((((xPp1 - (xPp3 * xPp3)) * (xPp1 + (xPp3 * xPp3))) * 3) * ((((xPp1 * (xPp2 * xPp2)) + (xPp1 * (xPp2 * xPp2))) + ((xPp1 * (xPp2 * xPp2)) + (xPp1 * (xPp2 * xPp2)))) - ((((((xPp1 - (xPp3 * xPp3)) * (xPp1 + (xPp3 * xPp3))) * 3) * (((xPp1 - (xPp3 * xPp3)) * (xPp1 + (xPp3 * xPp3))) * 3)) - (((xPp1 * (xPp2 * xPp2)) + (xPp1 * (xPp2 * xPp2))) + ((xPp1 * (xPp2 * xPp2)) + (xPp1 * (xPp2 * xPp2))))) - (((xPp1 * (xPp2 * xPp2)) + (xPp1 * (xPp2 * xPp2))) + ((xPp1 * (xPp2 * xPp2)) + (xPp1 * (xPp2 * xPp2))))))) - (((((xPp2 * xPp2) * (xPp2 * xPp2)) + ((xPp2 * xPp2) * (xPp2 * xPp2))) + (((xPp2 * xPp2) * (xPp2 * xPp2)) + ((xPp2 * xPp2) * (xPp2 * xPp2)))) + ((((xPp2 * xPp2) * (xPp2 * xPp2)) + ((xPp2 * xPp2) * (xPp2 * xPp2))) + (((xPp2 * xPp2) * (xPp2 * xPp2)) + ((xPp2 * xPp2) * (xPp2 * xPp2)))))) = 3 * ((xPp1 - xPp3 * xPp3) * (xPp1 + xPp3 * xPp3)) * (4 * (xPp1 * (xPp2 * xPp2)) - ((3 * ((xPp1 - xPp3 * xPp3) * (xPp1 + xPp3 * xPp3))) * (3 * ((xPp1 - xPp3 * xPp3) * (xPp1 + xPp3 * xPp3))) - 4 * (xPp1 * (xPp2 * xPp2)) - 4 * (xPp1 * (xPp2 * xPp2)))) - 8 * (xPp2 * xPp2 * (xPp2 * xPp2)) := by grind
section XE
variable {kd : Nat → KD} {A : Nat → Nat} {X : AH} {R : Nat → Nat} {S : Nat → List Int32} {O : Nat → AC} {F : Nat → Int32} {h : AH}
/-- the curve's numbers -/
def XB (R : Nat → Nat) : Prop := R 12 = bMx ∧ R 13 = eP ∧ R 14 = zMx ∧ R 15 = tMx ∧ R 61 = gxM ∧ R 62 = gyM ∧ R 63 = oneP
theorem tMx_lt : tMx < pP := by decide +kernel
theorem tMx_ok : tMx = 3 * 2 ^ (32 * 12) % pP := by decide +kernel
theorem tMx_v : vm tMx = 3 := by rw [tMx_ok, vm_in, fp_3]
theorem XB.three {R : Nat → Nat} (b : XB R) : vx R 15 3 := by
  unfold vx
  rw [b.2.2.2.1]
  exact ⟨tMx_v, tMx_lt⟩
theorem XB.fr {R R' : Nat → Nat} (b : XB R) (h : ∀ j, (12 ≤ j ∧ j ≤ 15) ∨ (61 ≤ j ∧ j ≤ 63) → R' j = R j) : XB R' := by
  obtain ⟨b1, b2, b3, b4, b5, b6, b7⟩ := b
  exact ⟨by rw [h _ (by omega)]; exact b1, by rw [h _ (by omega)]; exact b2, by rw [h _ (by omega)]; exact b3, by rw [h _ (by omega)]; exact b4, by rw [h _ (by omega)]; exact b5, by rw [h _ (by omega)]; exact b6, by rw [h _ (by omega)]; exact b7⟩
/-- a point is the result; some registers have changed -/
def PtQ (kd : Nat → KD) (A : Nat → Nat) (X : AH) (R : Nat → Nat) (S : Nat → List Int32) (O : Nat → AC) (F : Nat → Int32) (scr : Nat → Bool) (P : Nat) (Pt : PP) (h' : AH) : Prop :=
  ∃ R', (∀ j, scr j = false → R' j = R j) ∧ PtV R' P Pt ∧ XW kd A X R' S O F h'
theorem PtK.lt {P : Nat} (hP : PtK kd A O P) (w : XW kd A X R S O F h) : R (P + 1) < pP ∧ R (P + 2) < pP ∧ R (P + 3) < pP := by
  obtain ⟨f1, -, -, l1⟩ := w.n (P + 1) hP.2.2.1
  obtain ⟨f2, -, -, l2⟩ := w.n (P + 2) hP.2.2.2.1
  obtain ⟨f3, -, -, l3⟩ := w.n (P + 3) hP.2.2.2.2
  exact ⟨l1, l2, l3⟩
set_option maxHeartbeats 4000000 in
theorem twice_ok (g : GX) (w : XW kd A X R S O F h) {P : Nat} (hP : PtK kd A O P) (hP60 : 60 ≤ P) (hb : XB R) {Pt : PP} (on : OnP Pt) (hv : PtV R P Pt) :
    MT g MX5_twice ({ frames := 4, cells := 0, slots := 0, locals := 95 } : Room) [.ref (A 11), .ref (A P)] h (RV (PtQ kd A X R S O F (ecS P) P (adP Pt Pt))) := by
  refine MT.of (by decide) (Nat.le_of_ble_eq_true rfl) ?_
  obtain ⟨l1, l2, l3⟩ := hP.lt w
  refine X_aload_n (pc := 0) 1 dX5_twice_0 rfl rfl ?_
  refine X_ivi (pc := 1) _ dX5_twice_1 cv_X5_136_5 (hP.c w) rfl (isNone_ok g w hP) nX7_isNone (Nat.le_of_ble_eq_true rfl) (Nat.le_of_ble_eq_true rfl) (Nat.le_of_ble_eq_true rfl) (Nat.le_of_ble_eq_true rfl) (fun r h1 q => ?_)
  obtain ⟨er, rfl⟩ := q
  by_cases hz : R (P + 3) = 0
  · rw [if_pos hz] at er
    subst er
    refine X_if_eq (pc := 4) 8 dX5_twice_4 (by decide) (fun c_4 => ?_) (fun c_4 => ?_)
    · exact absurd c_4 (by decide)
    · refine X_return (pc := 7) dX5_twice_7 rfl (Nat.le_of_ble_eq_true rfl) (Nat.le_of_ble_eq_true rfl) ?_
      refine ⟨rfl, R, fun _ _ => rfl, ?_, w⟩
      have : Pt = none := Jc.none0 hv ((vm_0 l3).mpr hz)
      subst this
      exact hv
  · rw [if_neg hz] at er
    subst er
    refine X_if_eq (pc := 4) 8 dX5_twice_4 (by decide) (fun c_4 => ?_) (fun c_4 => ?_)
    · skip
      refine X_aload_n (pc := 8) 0 dX5_twice_8 rfl rfl ?_
      refine X_getfield (pc := 9) dX5_twice_9 fg_X5_22_3 (XW.cv w) rfl ?_
      refine X_aload_n (pc := 12) 1 dX5_twice_12 rfl rfl ?_
      refine X_getfield (pc := 13) dX5_twice_13 fg_X5_114_5 (PtK.c hP w) rfl ?_
      refine X_aload_n (pc := 16) 1 dX5_twice_16 rfl rfl ?_
      refine X_getfield (pc := 17) dX5_twice_17 fg_X5_114_5 (PtK.c hP w) rfl ?_
      refine X_aload_n (pc := 20) 0 dX5_twice_20 rfl rfl ?_
      refine X_getfield (pc := 21) dX5_twice_21 fg_X5_44_3 (XW.cv w) rfl ?_
      refine X_ivv (pc := 24) _ dX5_twice_24 cv_X5_140_4 (MoK.ob (XW.mp w) w) rfl (xmPr g w 16 (P + 3) (P + 3) (St.q (XW.k w 16 (by decide))) (Or.inl hP.2.2.2.2) (Or.inl hP.2.2.2.2)) nX6_mul (Nat.le_of_ble_eq_true rfl) (Nat.le_of_ble_eq_true rfl) (Nat.le_of_ble_eq_true rfl) (Nat.le_of_ble_eq_true rfl) (fun h_1 w_1 => ?_)
      have fa_1 := FPk.ofM w_1
      refine X_aload_n (pc := 27) 0 dX5_twice_27 rfl rfl ?_
      refine X_getfield (pc := 28) dX5_twice_28 fg_X5_22_3 (XW.cv w_1) rfl ?_
      refine X_aload_n (pc := 31) 1 dX5_twice_31 rfl rfl ?_
      refine X_getfield (pc := 32) dX5_twice_32 fg_X5_108_5 (PtK.c hP w_1) rfl ?_
      refine X_aload_n (pc := 35) 1 dX5_twice_35 rfl rfl ?_
      refine X_getfield (pc := 36) dX5_twice_36 fg_X5_108_5 (PtK.c hP w_1) rfl ?_
      refine X_aload_n (pc := 39) 0 dX5_twice_39 rfl rfl ?_
      refine X_getfield (pc := 40) dX5_twice_40 fg_X5_47_3 (XW.cv w_1) rfl ?_
      refine X_ivv (pc := 43) _ dX5_twice_43 cv_X5_140_4 (MoK.ob (XW.mp w_1) w_1) rfl (xmPr g w_1 17 (P + 2) (P + 2) (St.p (XW.k w_1 17 (by decide))) (Or.inl hP.2.2.2.1) (Or.inl hP.2.2.2.1)) nX6_mul (Nat.le_of_ble_eq_true rfl) (Nat.le_of_ble_eq_true rfl) (Nat.le_of_ble_eq_true rfl) (Nat.le_of_ble_eq_true rfl) (fun h_2 w_2 => ?_)
      have fa_2 := FPk.kM w_2 fa_1 (by omega)
      refine X_aload_n (pc := 46) 0 dX5_twice_46 rfl rfl ?_
      refine X_getfield (pc := 47) dX5_twice_47 fg_X5_22_3 (XW.cv w_2) rfl ?_
      refine X_aload_n (pc := 50) 1 dX5_twice_50 rfl rfl ?_
      refine X_getfield (pc := 51) dX5_twice_51 fg_X5_103_5 (PtK.c hP w_2) rfl ?_
      refine X_aload_n (pc := 54) 0 dX5_twice_54 rfl rfl ?_
      refine X_getfield (pc := 55) dX5_twice_55 fg_X5_47_3 (XW.cv w_2) rfl ?_
      refine X_aload_n (pc := 58) 0 dX5_twice_58 rfl rfl ?_
      refine X_getfield (pc := 59) dX5_twice_59 fg_X5_50_3 (XW.cv w_2) rfl ?_
      refine X_ivv (pc := 62) _ dX5_twice_62 cv_X5_140_4 (MoK.ob (XW.mp w_2) w_2) rfl (xmPr g w_2 18 (P + 1) 17 (St.p (XW.k w_2 18 (by decide))) (Or.inl hP.2.2.1) (Or.inl (XW.k w_2 17 (by decide)))) nX6_mul (Nat.le_of_ble_eq_true rfl) (Nat.le_of_ble_eq_true rfl) (Nat.le_of_ble_eq_true rfl) (Nat.le_of_ble_eq_true rfl) (fun h_3 w_3 => ?_)
      have fa_3 := FPk.kM w_3 fa_2 (by omega)
      refine X_aload_n (pc := 65) 0 dX5_twice_65 rfl rfl ?_
      refine X_getfield (pc := 66) dX5_twice_66 fg_X5_22_3 (XW.cv w_3) rfl ?_
      refine X_aload_n (pc := 69) 1 dX5_twice_69 rfl rfl ?_
      refine X_getfield (pc := 70) dX5_twice_70 fg_X5_103_5 (PtK.c hP w_3) rfl ?_
      refine X_aload_n (pc := 73) 0 dX5_twice_73 rfl rfl ?_
      refine X_getfield (pc := 74) dX5_twice_74 fg_X5_44_3 (XW.cv w_3) rfl ?_
      refine X_aload_n (pc := 77) 0 dX5_twice_77 rfl rfl ?_
      refine X_getfield (pc := 78) dX5_twice_78 fg_X5_53_3 (XW.cv w_3) rfl ?_
      refine X_ivv (pc := 81) _ dX5_twice_81 cv_X5_133_4 (MoK.ob (XW.mp w_3) w_3) rfl (xsPr g w_3 19 (P + 1) 16 (St.p (XW.k w_3 19 (by decide))) (Or.inl hP.2.2.1) fa_3) nX6_sub (Nat.le_of_ble_eq_true rfl) (Nat.le_of_ble_eq_true rfl) (Nat.le_of_ble_eq_true rfl) (Nat.le_of_ble_eq_true rfl) (fun h_4 w_4 => ?_)
      have fa_4 := FPk.kS w_4 fa_3 (by omega)
      refine X_aload_n (pc := 84) 0 dX5_twice_84 rfl rfl ?_
      refine X_getfield (pc := 85) dX5_twice_85 fg_X5_22_3 (XW.cv w_4) rfl ?_
      refine X_aload_n (pc := 88) 1 dX5_twice_88 rfl rfl ?_
      refine X_getfield (pc := 89) dX5_twice_89 fg_X5_103_5 (PtK.c hP w_4) rfl ?_
      refine X_aload_n (pc := 92) 0 dX5_twice_92 rfl rfl ?_
      refine X_getfield (pc := 93) dX5_twice_93 fg_X5_44_3 (XW.cv w_4) rfl ?_
      refine X_aload_n (pc := 96) 0 dX5_twice_96 rfl rfl ?_
      refine X_getfield (pc := 97) dX5_twice_97 fg_X5_56_3 (XW.cv w_4) rfl ?_
      refine X_ivv (pc := 100) _ dX5_twice_100 cv_X5_129_4 (MoK.ob (XW.mp w_4) w_4) rfl (xaPr g w_4 20 (P + 1) 16 (St.p (XW.k w_4 20 (by decide))) (Or.inl hP.2.2.1) fa_4) nX6_add (Nat.le_of_ble_eq_true rfl) (Nat.le_of_ble_eq_true rfl) (Nat.le_of_ble_eq_true rfl) (Nat.le_of_ble_eq_true rfl) (fun h_5 w_5 => ?_)
      have fa_5 := FPk.kA w_5 fa_4 (by omega)
      refine X_aload_n (pc := 103) 0 dX5_twice_103 rfl rfl ?_
      refine X_getfield (pc := 104) dX5_twice_104 fg_X5_22_3 (XW.cv w_5) rfl ?_
      refine X_aload_n (pc := 107) 0 dX5_twice_107 rfl rfl ?_
      refine X_getfield (pc := 108) dX5_twice_108 fg_X5_53_3 (XW.cv w_5) rfl ?_
      refine X_aload_n (pc := 111) 0 dX5_twice_111 rfl rfl ?_
      refine X_getfield (pc := 112) dX5_twice_112 fg_X5_56_3 (XW.cv w_5) rfl ?_
      refine X_aload_n (pc := 115) 0 dX5_twice_115 rfl rfl ?_
      refine X_getfield (pc := 116) dX5_twice_116 fg_X5_53_3 (XW.cv w_5) rfl ?_
      refine X_ivv (pc := 119) _ dX5_twice_119 cv_X5_140_4 (MoK.ob (XW.mp w_5) w_5) rfl (xmPr g w_5 19 19 20 (St.p (XW.k w_5 19 (by decide))) (Or.inl (XW.k w_5 19 (by decide))) (Or.inl (XW.k w_5 20 (by decide)))) nX6_mul (Nat.le_of_ble_eq_true rfl) (Nat.le_of_ble_eq_true rfl) (Nat.le_of_ble_eq_true rfl) (Nat.le_of_ble_eq_true rfl) (fun h_6 w_6 => ?_)
      have fa_6 := FPk.kM w_6 fa_5 (by omega)
      refine X_aload_n (pc := 122) 0 dX5_twice_122 rfl rfl ?_
      refine X_getfield (pc := 123) dX5_twice_123 fg_X5_22_3 (XW.cv w_6) rfl ?_
      refine X_aload_n (pc := 126) 0 dX5_twice_126 rfl rfl ?_
      refine X_getfield (pc := 127) dX5_twice_127 fg_X5_53_3 (XW.cv w_6) rfl ?_
      refine X_aload_n (pc := 130) 0 dX5_twice_130 rfl rfl ?_
      refine X_getfield (pc := 131) dX5_twice_131 fg_X5_41_3 (XW.cv w_6) rfl ?_
      refine X_aload_n (pc := 134) 0 dX5_twice_134 rfl rfl ?_
      refine X_getfield (pc := 135) dX5_twice_135 fg_X5_53_3 (XW.cv w_6) rfl ?_
      refine X_ivv (pc := 138) _ dX5_twice_138 cv_X5_140_4 (MoK.ob (XW.mp w_6) w_6) rfl (xmPr g w_6 19 19 15 (St.p (XW.k w_6 19 (by decide))) (Or.inl (XW.k w_6 19 (by decide))) (Or.inl (XW.k w_6 15 (by decide)))) nX6_mul (Nat.le_of_ble_eq_true rfl) (Nat.le_of_ble_eq_true rfl) (Nat.le_of_ble_eq_true rfl) (Nat.le_of_ble_eq_true rfl) (fun h_7 w_7 => ?_)
      have fa_7 := FPk.kM w_7 fa_6 (by omega)
      refine X_aload_n (pc := 141) 0 dX5_twice_141 rfl rfl ?_
      refine X_getfield (pc := 142) dX5_twice_142 fg_X5_22_3 (XW.cv w_7) rfl ?_
      refine X_aload_n (pc := 145) 1 dX5_twice_145 rfl rfl ?_
      refine X_getfield (pc := 146) dX5_twice_146 fg_X5_108_5 (PtK.c hP w_7) rfl ?_
      refine X_aload_n (pc := 149) 1 dX5_twice_149 rfl rfl ?_
      refine X_getfield (pc := 150) dX5_twice_150 fg_X5_114_5 (PtK.c hP w_7) rfl ?_
      refine X_aload_n (pc := 153) 0 dX5_twice_153 rfl rfl ?_
      refine X_getfield (pc := 154) dX5_twice_154 fg_X5_56_3 (XW.cv w_7) rfl ?_
      refine X_ivv (pc := 157) _ dX5_twice_157 cv_X5_129_4 (MoK.ob (XW.mp w_7) w_7) rfl (xaPr g w_7 20 (P + 2) (P + 3) (St.p (XW.k w_7 20 (by decide))) (Or.inl hP.2.2.2.1) (Or.inl hP.2.2.2.2)) nX6_add (Nat.le_of_ble_eq_true rfl) (Nat.le_of_ble_eq_true rfl) (Nat.le_of_ble_eq_true rfl) (Nat.le_of_ble_eq_true rfl) (fun h_8 w_8 => ?_)
      have fa_8 := FPk.kA w_8 fa_7 (by omega)
      refine X_aload_n (pc := 160) 0 dX5_twice_160 rfl rfl ?_
      refine X_getfield (pc := 161) dX5_twice_161 fg_X5_22_3 (XW.cv w_8) rfl ?_
      refine X_aload_n (pc := 164) 0 dX5_twice_164 rfl rfl ?_
      refine X_getfield (pc := 165) dX5_twice_165 fg_X5_56_3 (XW.cv w_8) rfl ?_
      refine X_aload_n (pc := 168) 0 dX5_twice_168 rfl rfl ?_
      refine X_getfield (pc := 169) dX5_twice_169 fg_X5_56_3 (XW.cv w_8) rfl ?_
      refine X_aload_n (pc := 172) 0 dX5_twice_172 rfl rfl ?_
      refine X_getfield (pc := 173) dX5_twice_173 fg_X5_56_3 (XW.cv w_8) rfl ?_
      refine X_ivv (pc := 176) _ dX5_twice_176 cv_X5_140_4 (MoK.ob (XW.mp w_8) w_8) rfl (xmPr g w_8 20 20 20 (St.p (XW.k w_8 20 (by decide))) (Or.inl (XW.k w_8 20 (by decide))) (Or.inl (XW.k w_8 20 (by decide)))) nX6_mul (Nat.le_of_ble_eq_true rfl) (Nat.le_of_ble_eq_true rfl) (Nat.le_of_ble_eq_true rfl) (Nat.le_of_ble_eq_true rfl) (fun h_9 w_9 => ?_)
      have fa_9 := FPk.kM w_9 fa_8 (by omega)
      refine X_aload_n (pc := 179) 0 dX5_twice_179 rfl rfl ?_
      refine X_getfield (pc := 180) dX5_twice_180 fg_X5_22_3 (XW.cv w_9) rfl ?_
      refine X_aload_n (pc := 183) 0 dX5_twice_183 rfl rfl ?_
      refine X_getfield (pc := 184) dX5_twice_184 fg_X5_56_3 (XW.cv w_9) rfl ?_
      refine X_aload_n (pc := 187) 0 dX5_twice_187 rfl rfl ?_
      refine X_getfield (pc := 188) dX5_twice_188 fg_X5_47_3 (XW.cv w_9) rfl ?_
      refine X_aload_n (pc := 191) 0 dX5_twice_191 rfl rfl ?_
      refine X_getfield (pc := 192) dX5_twice_192 fg_X5_56_3 (XW.cv w_9) rfl ?_
      refine X_ivv (pc := 195) _ dX5_twice_195 cv_X5_133_4 (MoK.ob (XW.mp w_9) w_9) rfl (xsPr g w_9 20 20 17 (St.p (XW.k w_9 20 (by decide))) (Or.inl (XW.k w_9 20 (by decide))) (Or.inl (XW.k w_9 17 (by decide)))) nX6_sub (Nat.le_of_ble_eq_true rfl) (Nat.le_of_ble_eq_true rfl) (Nat.le_of_ble_eq_true rfl) (Nat.le_of_ble_eq_true rfl) (fun h_10 w_10 => ?_)
      have fa_10 := FPk.kS w_10 fa_9 (by omega)
      refine X_aload_n (pc := 198) 0 dX5_twice_198 rfl rfl ?_
      refine X_getfield (pc := 199) dX5_twice_199 fg_X5_22_3 (XW.cv w_10) rfl ?_
      refine X_aload_n (pc := 202) 0 dX5_twice_202 rfl rfl ?_
      refine X_getfield (pc := 203) dX5_twice_203 fg_X5_56_3 (XW.cv w_10) rfl ?_
      refine X_aload_n (pc := 206) 0 dX5_twice_206 rfl rfl ?_
      refine X_getfield (pc := 207) dX5_twice_207 fg_X5_44_3 (XW.cv w_10) rfl ?_
      refine X_aload_n (pc := 210) 1 dX5_twice_210 rfl rfl ?_
      refine X_getfield (pc := 211) dX5_twice_211 fg_X5_114_5 (PtK.c hP w_10) rfl ?_
      refine X_ivv (pc := 214) _ dX5_twice_214 cv_X5_133_4 (MoK.ob (XW.mp w_10) w_10) rfl (xsPr g w_10 (P + 3) 20 16 (St.p hP.2.2.2.2) (Or.inl (XW.k w_10 20 (by decide))) fa_10) nX6_sub (Nat.le_of_ble_eq_true rfl) (Nat.le_of_ble_eq_true rfl) (Nat.le_of_ble_eq_true rfl) (Nat.le_of_ble_eq_true rfl) (fun h_11 w_11 => ?_)
      have fa_11 := FPk.kS w_11 fa_10 (by omega)
      refine X_aload_n (pc := 217) 0 dX5_twice_217 rfl rfl ?_
      refine X_getfield (pc := 218) dX5_twice_218 fg_X5_22_3 (XW.cv w_11) rfl ?_
      refine X_aload_n (pc := 221) 0 dX5_twice_221 rfl rfl ?_
      refine X_getfield (pc := 222) dX5_twice_222 fg_X5_50_3 (XW.cv w_11) rfl ?_
      refine X_aload_n (pc := 225) 0 dX5_twice_225 rfl rfl ?_
      refine X_getfield (pc := 226) dX5_twice_226 fg_X5_50_3 (XW.cv w_11) rfl ?_
      refine X_aload_n (pc := 229) 0 dX5_twice_229 rfl rfl ?_
      refine X_getfield (pc := 230) dX5_twice_230 fg_X5_50_3 (XW.cv w_11) rfl ?_
      refine X_ivv (pc := 233) _ dX5_twice_233 cv_X5_129_4 (MoK.ob (XW.mp w_11) w_11) rfl (xaPr g w_11 18 18 18 (St.p (XW.k w_11 18 (by decide))) (Or.inl (XW.k w_11 18 (by decide))) (Or.inl (XW.k w_11 18 (by decide)))) nX6_add (Nat.le_of_ble_eq_true rfl) (Nat.le_of_ble_eq_true rfl) (Nat.le_of_ble_eq_true rfl) (Nat.le_of_ble_eq_true rfl) (fun h_12 w_12 => ?_)
      have fa_12 := FPk.kA w_12 fa_11 (by omega)
      refine X_aload_n (pc := 236) 0 dX5_twice_236 rfl rfl ?_
      refine X_getfield (pc := 237) dX5_twice_237 fg_X5_22_3 (XW.cv w_12) rfl ?_
      refine X_aload_n (pc := 240) 0 dX5_twice_240 rfl rfl ?_
      refine X_getfield (pc := 241) dX5_twice_241 fg_X5_50_3 (XW.cv w_12) rfl ?_
      refine X_aload_n (pc := 244) 0 dX5_twice_244 rfl rfl ?_
      refine X_getfield (pc := 245) dX5_twice_245 fg_X5_50_3 (XW.cv w_12) rfl ?_
      refine X_aload_n (pc := 248) 0 dX5_twice_248 rfl rfl ?_
      refine X_getfield (pc := 249) dX5_twice_249 fg_X5_50_3 (XW.cv w_12) rfl ?_
      refine X_ivv (pc := 252) _ dX5_twice_252 cv_X5_129_4 (MoK.ob (XW.mp w_12) w_12) rfl (xaPr g w_12 18 18 18 (St.p (XW.k w_12 18 (by decide))) (Or.inl (XW.k w_12 18 (by decide))) (Or.inl (XW.k w_12 18 (by decide)))) nX6_add (Nat.le_of_ble_eq_true rfl) (Nat.le_of_ble_eq_true rfl) (Nat.le_of_ble_eq_true rfl) (Nat.le_of_ble_eq_true rfl) (fun h_13 w_13 => ?_)
      have fa_13 := FPk.kA w_13 fa_12 (by omega)
      refine X_aload_n (pc := 255) 0 dX5_twice_255 rfl rfl ?_
      refine X_getfield (pc := 256) dX5_twice_256 fg_X5_22_3 (XW.cv w_13) rfl ?_
      refine X_aload_n (pc := 259) 0 dX5_twice_259 rfl rfl ?_
      refine X_getfield (pc := 260) dX5_twice_260 fg_X5_53_3 (XW.cv w_13) rfl ?_
      refine X_aload_n (pc := 263) 0 dX5_twice_263 rfl rfl ?_
      refine X_getfield (pc := 264) dX5_twice_264 fg_X5_53_3 (XW.cv w_13) rfl ?_
      refine X_aload_n (pc := 267) 1 dX5_twice_267 rfl rfl ?_
      refine X_getfield (pc := 268) dX5_twice_268 fg_X5_103_5 (PtK.c hP w_13) rfl ?_
      refine X_ivv (pc := 271) _ dX5_twice_271 cv_X5_140_4 (MoK.ob (XW.mp w_13) w_13) rfl (xmPr g w_13 (P + 1) 19 19 (St.p hP.2.2.1) (Or.inl (XW.k w_13 19 (by decide))) (Or.inl (XW.k w_13 19 (by decide)))) nX6_mul (Nat.le_of_ble_eq_true rfl) (Nat.le_of_ble_eq_true rfl) (Nat.le_of_ble_eq_true rfl) (Nat.le_of_ble_eq_true rfl) (fun h_14 w_14 => ?_)
      have fa_14 := FPk.kM w_14 fa_13 (by omega)
      refine X_aload_n (pc := 274) 0 dX5_twice_274 rfl rfl ?_
      refine X_getfield (pc := 275) dX5_twice_275 fg_X5_22_3 (XW.cv w_14) rfl ?_
      refine X_aload_n (pc := 278) 1 dX5_twice_278 rfl rfl ?_
      refine X_getfield (pc := 279) dX5_twice_279 fg_X5_103_5 (PtK.c hP w_14) rfl ?_
      refine X_aload_n (pc := 282) 0 dX5_twice_282 rfl rfl ?_
      refine X_getfield (pc := 283) dX5_twice_283 fg_X5_50_3 (XW.cv w_14) rfl ?_
      refine X_aload_n (pc := 286) 1 dX5_twice_286 rfl rfl ?_
      refine X_getfield (pc := 287) dX5_twice_287 fg_X5_103_5 (PtK.c hP w_14) rfl ?_
      refine X_ivv (pc := 290) _ dX5_twice_290 cv_X5_133_4 (MoK.ob (XW.mp w_14) w_14) rfl (xsPr g w_14 (P + 1) (P + 1) 18 (St.p hP.2.2.1) (Or.inl hP.2.2.1) (Or.inl (XW.k w_14 18 (by decide)))) nX6_sub (Nat.le_of_ble_eq_true rfl) (Nat.le_of_ble_eq_true rfl) (Nat.le_of_ble_eq_true rfl) (Nat.le_of_ble_eq_true rfl) (fun h_15 w_15 => ?_)
      have fa_15 := FPk.kS w_15 fa_14 (by omega)
      refine X_aload_n (pc := 293) 0 dX5_twice_293 rfl rfl ?_
      refine X_getfield (pc := 294) dX5_twice_294 fg_X5_22_3 (XW.cv w_15) rfl ?_
      refine X_aload_n (pc := 297) 1 dX5_twice_297 rfl rfl ?_
      refine X_getfield (pc := 298) dX5_twice_298 fg_X5_103_5 (PtK.c hP w_15) rfl ?_
      refine X_aload_n (pc := 301) 0 dX5_twice_301 rfl rfl ?_
      refine X_getfield (pc := 302) dX5_twice_302 fg_X5_50_3 (XW.cv w_15) rfl ?_
      refine X_aload_n (pc := 305) 1 dX5_twice_305 rfl rfl ?_
      refine X_getfield (pc := 306) dX5_twice_306 fg_X5_103_5 (PtK.c hP w_15) rfl ?_
      refine X_ivv (pc := 309) _ dX5_twice_309 cv_X5_133_4 (MoK.ob (XW.mp w_15) w_15) rfl (xsPr g w_15 (P + 1) (P + 1) 18 (St.p hP.2.2.1) (Or.inl hP.2.2.1) (Or.inl (XW.k w_15 18 (by decide)))) nX6_sub (Nat.le_of_ble_eq_true rfl) (Nat.le_of_ble_eq_true rfl) (Nat.le_of_ble_eq_true rfl) (Nat.le_of_ble_eq_true rfl) (fun h_16 w_16 => ?_)
      have fa_16 := FPk.kS w_16 fa_15 (by omega)
      refine X_aload_n (pc := 312) 0 dX5_twice_312 rfl rfl ?_
      refine X_getfield (pc := 313) dX5_twice_313 fg_X5_22_3 (XW.cv w_16) rfl ?_
      refine X_aload_n (pc := 316) 0 dX5_twice_316 rfl rfl ?_
      refine X_getfield (pc := 317) dX5_twice_317 fg_X5_50_3 (XW.cv w_16) rfl ?_
      refine X_aload_n (pc := 320) 1 dX5_twice_320 rfl rfl ?_
      refine X_getfield (pc := 321) dX5_twice_321 fg_X5_103_5 (PtK.c hP w_16) rfl ?_
      refine X_aload_n (pc := 324) 0 dX5_twice_324 rfl rfl ?_
      refine X_getfield (pc := 325) dX5_twice_325 fg_X5_50_3 (XW.cv w_16) rfl ?_
      refine X_ivv (pc := 328) _ dX5_twice_328 cv_X5_133_4 (MoK.ob (XW.mp w_16) w_16) rfl (xsPr g w_16 18 18 (P + 1) (St.p (XW.k w_16 18 (by decide))) (Or.inl (XW.k w_16 18 (by decide))) (Or.inl hP.2.2.1)) nX6_sub (Nat.le_of_ble_eq_true rfl) (Nat.le_of_ble_eq_true rfl) (Nat.le_of_ble_eq_true rfl) (Nat.le_of_ble_eq_true rfl) (fun h_17 w_17 => ?_)
      have fa_17 := FPk.kS w_17 fa_16 (by omega)
      refine X_aload_n (pc := 331) 0 dX5_twice_331 rfl rfl ?_
      refine X_getfield (pc := 332) dX5_twice_332 fg_X5_22_3 (XW.cv w_17) rfl ?_
      refine X_aload_n (pc := 335) 0 dX5_twice_335 rfl rfl ?_
      refine X_getfield (pc := 336) dX5_twice_336 fg_X5_47_3 (XW.cv w_17) rfl ?_
      refine X_aload_n (pc := 339) 0 dX5_twice_339 rfl rfl ?_
      refine X_getfield (pc := 340) dX5_twice_340 fg_X5_47_3 (XW.cv w_17) rfl ?_
      refine X_aload_n (pc := 343) 0 dX5_twice_343 rfl rfl ?_
      refine X_getfield (pc := 344) dX5_twice_344 fg_X5_47_3 (XW.cv w_17) rfl ?_
      refine X_ivv (pc := 347) _ dX5_twice_347 cv_X5_140_4 (MoK.ob (XW.mp w_17) w_17) rfl (xmPr g w_17 17 17 17 (St.p (XW.k w_17 17 (by decide))) (Or.inl (XW.k w_17 17 (by decide))) (Or.inl (XW.k w_17 17 (by decide)))) nX6_mul (Nat.le_of_ble_eq_true rfl) (Nat.le_of_ble_eq_true rfl) (Nat.le_of_ble_eq_true rfl) (Nat.le_of_ble_eq_true rfl) (fun h_18 w_18 => ?_)
      have fa_18 := FPk.kM w_18 fa_17 (by omega)
      refine X_aload_n (pc := 350) 0 dX5_twice_350 rfl rfl ?_
      refine X_getfield (pc := 351) dX5_twice_351 fg_X5_22_3 (XW.cv w_18) rfl ?_
      refine X_aload_n (pc := 354) 0 dX5_twice_354 rfl rfl ?_
      refine X_getfield (pc := 355) dX5_twice_355 fg_X5_47_3 (XW.cv w_18) rfl ?_
      refine X_aload_n (pc := 358) 0 dX5_twice_358 rfl rfl ?_
      refine X_getfield (pc := 359) dX5_twice_359 fg_X5_47_3 (XW.cv w_18) rfl ?_
      refine X_aload_n (pc := 362) 0 dX5_twice_362 rfl rfl ?_
      refine X_getfield (pc := 363) dX5_twice_363 fg_X5_47_3 (XW.cv w_18) rfl ?_
      refine X_ivv (pc := 366) _ dX5_twice_366 cv_X5_129_4 (MoK.ob (XW.mp w_18) w_18) rfl (xaPr g w_18 17 17 17 (St.p (XW.k w_18 17 (by decide))) (Or.inl (XW.k w_18 17 (by decide))) (Or.inl (XW.k w_18 17 (by decide)))) nX6_add (Nat.le_of_ble_eq_true rfl) (Nat.le_of_ble_eq_true rfl) (Nat.le_of_ble_eq_true rfl) (Nat.le_of_ble_eq_true rfl) (fun h_19 w_19 => ?_)
      have fa_19 := FPk.kA w_19 fa_18 (by omega)
      refine X_aload_n (pc := 369) 0 dX5_twice_369 rfl rfl ?_
      refine X_getfield (pc := 370) dX5_twice_370 fg_X5_22_3 (XW.cv w_19) rfl ?_
      refine X_aload_n (pc := 373) 0 dX5_twice_373 rfl rfl ?_
      refine X_getfield (pc := 374) dX5_twice_374 fg_X5_47_3 (XW.cv w_19) rfl ?_
      refine X_aload_n (pc := 377) 0 dX5_twice_377 rfl rfl ?_
      refine X_getfield (pc := 378) dX5_twice_378 fg_X5_47_3 (XW.cv w_19) rfl ?_
      refine X_aload_n (pc := 381) 0 dX5_twice_381 rfl rfl ?_
      refine X_getfield (pc := 382) dX5_twice_382 fg_X5_47_3 (XW.cv w_19) rfl ?_
      refine X_ivv (pc := 385) _ dX5_twice_385 cv_X5_129_4 (MoK.ob (XW.mp w_19) w_19) rfl (xaPr g w_19 17 17 17 (St.p (XW.k w_19 17 (by decide))) (Or.inl (XW.k w_19 17 (by decide))) (Or.inl (XW.k w_19 17 (by decide)))) nX6_add (Nat.le_of_ble_eq_true rfl) (Nat.le_of_ble_eq_true rfl) (Nat.le_of_ble_eq_true rfl) (Nat.le_of_ble_eq_true rfl) (fun h_20 w_20 => ?_)
      have fa_20 := FPk.kA w_20 fa_19 (by omega)
      refine X_aload_n (pc := 388) 0 dX5_twice_388 rfl rfl ?_
      refine X_getfield (pc := 389) dX5_twice_389 fg_X5_22_3 (XW.cv w_20) rfl ?_
      refine X_aload_n (pc := 392) 0 dX5_twice_392 rfl rfl ?_
      refine X_getfield (pc := 393) dX5_twice_393 fg_X5_47_3 (XW.cv w_20) rfl ?_
      refine X_aload_n (pc := 396) 0 dX5_twice_396 rfl rfl ?_
      refine X_getfield (pc := 397) dX5_twice_397 fg_X5_47_3 (XW.cv w_20) rfl ?_
      refine X_aload_n (pc := 400) 0 dX5_twice_400 rfl rfl ?_
      refine X_getfield (pc := 401) dX5_twice_401 fg_X5_47_3 (XW.cv w_20) rfl ?_
      refine X_ivv (pc := 404) _ dX5_twice_404 cv_X5_129_4 (MoK.ob (XW.mp w_20) w_20) rfl (xaPr g w_20 17 17 17 (St.p (XW.k w_20 17 (by decide))) (Or.inl (XW.k w_20 17 (by decide))) (Or.inl (XW.k w_20 17 (by decide)))) nX6_add (Nat.le_of_ble_eq_true rfl) (Nat.le_of_ble_eq_true rfl) (Nat.le_of_ble_eq_true rfl) (Nat.le_of_ble_eq_true rfl) (fun h_21 w_21 => ?_)
      have fa_21 := FPk.kA w_21 fa_20 (by omega)
      refine X_aload_n (pc := 407) 0 dX5_twice_407 rfl rfl ?_
      refine X_getfield (pc := 408) dX5_twice_408 fg_X5_22_3 (XW.cv w_21) rfl ?_
      refine X_aload_n (pc := 411) 0 dX5_twice_411 rfl rfl ?_
      refine X_getfield (pc := 412) dX5_twice_412 fg_X5_53_3 (XW.cv w_21) rfl ?_
      refine X_aload_n (pc := 415) 0 dX5_twice_415 rfl rfl ?_
      refine X_getfield (pc := 416) dX5_twice_416 fg_X5_50_3 (XW.cv w_21) rfl ?_
      refine X_aload_n (pc := 419) 1 dX5_twice_419 rfl rfl ?_
      refine X_getfield (pc := 420) dX5_twice_420 fg_X5_108_5 (PtK.c hP w_21) rfl ?_
      refine X_ivv (pc := 423) _ dX5_twice_423 cv_X5_140_4 (MoK.ob (XW.mp w_21) w_21) rfl (xmPr g w_21 (P + 2) 19 18 (St.p hP.2.2.2.1) (Or.inl (XW.k w_21 19 (by decide))) (Or.inl (XW.k w_21 18 (by decide)))) nX6_mul (Nat.le_of_ble_eq_true rfl) (Nat.le_of_ble_eq_true rfl) (Nat.le_of_ble_eq_true rfl) (Nat.le_of_ble_eq_true rfl) (fun h_22 w_22 => ?_)
      have fa_22 := FPk.kM w_22 fa_21 (by omega)
      refine X_aload_n (pc := 426) 0 dX5_twice_426 rfl rfl ?_
      refine X_getfield (pc := 427) dX5_twice_427 fg_X5_22_3 (XW.cv w_22) rfl ?_
      refine X_aload_n (pc := 430) 1 dX5_twice_430 rfl rfl ?_
      refine X_getfield (pc := 431) dX5_twice_431 fg_X5_108_5 (PtK.c hP w_22) rfl ?_
      refine X_aload_n (pc := 434) 0 dX5_twice_434 rfl rfl ?_
      refine X_getfield (pc := 435) dX5_twice_435 fg_X5_47_3 (XW.cv w_22) rfl ?_
      refine X_aload_n (pc := 438) 1 dX5_twice_438 rfl rfl ?_
      refine X_getfield (pc := 439) dX5_twice_439 fg_X5_108_5 (PtK.c hP w_22) rfl ?_
      refine X_ivv (pc := 442) _ dX5_twice_442 cv_X5_133_4 (MoK.ob (XW.mp w_22) w_22) rfl (xsPr g w_22 (P + 2) (P + 2) 17 (St.p hP.2.2.2.1) (Or.inl hP.2.2.2.1) (Or.inl (XW.k w_22 17 (by decide)))) nX6_sub (Nat.le_of_ble_eq_true rfl) (Nat.le_of_ble_eq_true rfl) (Nat.le_of_ble_eq_true rfl) (Nat.le_of_ble_eq_true rfl) (fun h_23 w_23 => ?_)
      have fa_23 := FPk.kS w_23 fa_22 (by omega)
      refine X_return (pc := 445) dX5_twice_445 rfl (Nat.le_of_ble_eq_true rfl) (Nat.le_of_ble_eq_true rfl) ?_
      refine ⟨rfl, twR P R, fun j hj => ?_, ?_, w_23⟩
      · have := ecS_ne hj
        exact twR_o (by omega) (by omega) (by omega) (by omega) (by omega) (by omega) (by omega) (by omega)
      · obtain ⟨⟨e1, -⟩, ⟨e2, -⟩, ⟨e3, -⟩⟩ := twR_v (R := R) hP60 hb.three ⟨rfl, l1⟩ ⟨rfl, l2⟩ ⟨rfl, l3⟩
        unfold PtV
        rw [e1, e2, e3, twR_y, twR_x]
        exact Jc_dbl on hv (fun z => hz ((vm_0 l3).mp z))
    · exact absurd rfl c_4
noncomputable def adR (P Q : Nat) (R : Nat → Nat) : Nat → Nat := rSub 21 21 20 (rSub 19 19 18 (rMx 21 (Q + 2) 16 (rMx 16 16 (P + 3) (rMx 20 (P + 2) 17 (rMx 17 17 (Q + 3) (rMx 19 (Q + 1) 16 (rMx 18 (P + 1) 17 (rMx 17 (Q + 3) (Q + 3) (rMx 16 (P + 3) (P + 3) R)))))))))
theorem adR_o {R : Nat → Nat} {j P Q : Nat} (h16 : j ≠ 16) (h17 : j ≠ 17) (h18 : j ≠ 18) (h19 : j ≠ 19) (h20 : j ≠ 20) (h21 : j ≠ 21) : adR P Q R j = R j := by
  unfold adR
  exact (up_ne h21).trans ((up_ne h19).trans ((up_ne h21).trans ((up_ne h16).trans ((up_ne h20).trans ((up_ne h17).trans ((up_ne h19).trans ((up_ne h18).trans ((up_ne h17).trans (up_ne h16)))))))))
theorem adR_v {R : Nat → Nat} {P Q : Nat} {xPp1 xPp2 xPp3 xQp1 xQp2 xQp3 : Fp} (hP60 : 60 ≤ P) (hQ60 : 60 ≤ Q) (t0_Pp1 : vx R (P + 1) xPp1) (t0_Pp2 : vx R (P + 2) xPp2) (t0_Pp3 : vx R (P + 3) xPp3) (t0_Qp1 : vx R (Q + 1) xQp1) (t0_Qp2 : vx R (Q + 2) xQp2) (t0_Qp3 : vx R (Q + 3) xQp3) : vx (adR P Q R) 18 (xPp1 * (xQp3 * xQp3)) ∧ vx (adR P Q R) 19 ((xQp1 * (xPp3 * xPp3)) - (xPp1 * (xQp3 * xQp3))) ∧ vx (adR P Q R) 20 (xPp2 * ((xQp3 * xQp3) * xQp3)) ∧ vx (adR P Q R) 21 ((xQp2 * ((xPp3 * xPp3) * xPp3)) - (xPp2 * ((xQp3 * xQp3) * xQp3))) ∧ vx (adR P Q R) (P + 1) xPp1 ∧ vx (adR P Q R) (P + 2) xPp2 ∧ vx (adR P Q R) (P + 3) xPp3 ∧ vx (adR P Q R) (Q + 1) xQp1 ∧ vx (adR P Q R) (Q + 2) xQp2 ∧ vx (adR P Q R) (Q + 3) xQp3 := by
  have t1_Pp1 := vx_Mo (k := 16) (a := (P + 3)) (b := (P + 3)) t0_Pp1 (by omega)
  have t1_Pp2 := vx_Mo (k := 16) (a := (P + 3)) (b := (P + 3)) t0_Pp2 (by omega)
  have t1_Pp3 := vx_Mo (k := 16) (a := (P + 3)) (b := (P + 3)) t0_Pp3 (by omega)
  have t1_Qp1 := vx_Mo (k := 16) (a := (P + 3)) (b := (P + 3)) t0_Qp1 (by omega)
  have t1_Qp2 := vx_Mo (k := 16) (a := (P + 3)) (b := (P + 3)) t0_Qp2 (by omega)
  have t1_Qp3 := vx_Mo (k := 16) (a := (P + 3)) (b := (P + 3)) t0_Qp3 (by omega)
  have t1_16 := vx_M (k := 16) t0_Pp3 t0_Pp3
  have t2_Pp1 := vx_Mo (k := 17) (a := (Q + 3)) (b := (Q + 3)) t1_Pp1 (by omega)
  have t2_Pp2 := vx_Mo (k := 17) (a := (Q + 3)) (b := (Q + 3)) t1_Pp2 (by omega)
  have t2_Pp3 := vx_Mo (k := 17) (a := (Q + 3)) (b := (Q + 3)) t1_Pp3 (by omega)
  have t2_Qp1 := vx_Mo (k := 17) (a := (Q + 3)) (b := (Q + 3)) t1_Qp1 (by omega)
  have t2_Qp2 := vx_Mo (k := 17) (a := (Q + 3)) (b := (Q + 3)) t1_Qp2 (by omega)
  have t2_Qp3 := vx_Mo (k := 17) (a := (Q + 3)) (b := (Q + 3)) t1_Qp3 (by omega)
  have t2_16 := vx_Mo (k := 17) (a := (Q + 3)) (b := (Q + 3)) t1_16 (by omega)
  have t2_17 := vx_M (k := 17) t1_Qp3 t1_Qp3
  have t3_Pp1 := vx_Mo (k := 18) (a := (P + 1)) (b := 17) t2_Pp1 (by omega)
  have t3_Pp2 := vx_Mo (k := 18) (a := (P + 1)) (b := 17) t2_Pp2 (by omega)
  have t3_Pp3 := vx_Mo (k := 18) (a := (P + 1)) (b := 17) t2_Pp3 (by omega)
  have t3_Qp1 := vx_Mo (k := 18) (a := (P + 1)) (b := 17) t2_Qp1 (by omega)
  have t3_Qp2 := vx_Mo (k := 18) (a := (P + 1)) (b := 17) t2_Qp2 (by omega)
  have t3_Qp3 := vx_Mo (k := 18) (a := (P + 1)) (b := 17) t2_Qp3 (by omega)
  have t3_16 := vx_Mo (k := 18) (a := (P + 1)) (b := 17) t2_16 (by omega)
  have t3_17 := vx_Mo (k := 18) (a := (P + 1)) (b := 17) t2_17 (by omega)
  have t3_18 := vx_M (k := 18) t2_Pp1 t2_17
  have t4_Pp1 := vx_Mo (k := 19) (a := (Q + 1)) (b := 16) t3_Pp1 (by omega)
  have t4_Pp2 := vx_Mo (k := 19) (a := (Q + 1)) (b := 16) t3_Pp2 (by omega)
  have t4_Pp3 := vx_Mo (k := 19) (a := (Q + 1)) (b := 16) t3_Pp3 (by omega)
  have t4_Qp1 := vx_Mo (k := 19) (a := (Q + 1)) (b := 16) t3_Qp1 (by omega)
  have t4_Qp2 := vx_Mo (k := 19) (a := (Q + 1)) (b := 16) t3_Qp2 (by omega)
  have t4_Qp3 := vx_Mo (k := 19) (a := (Q + 1)) (b := 16) t3_Qp3 (by omega)
  have t4_16 := vx_Mo (k := 19) (a := (Q + 1)) (b := 16) t3_16 (by omega)
  have t4_17 := vx_Mo (k := 19) (a := (Q + 1)) (b := 16) t3_17 (by omega)
  have t4_18 := vx_Mo (k := 19) (a := (Q + 1)) (b := 16) t3_18 (by omega)
  have t4_19 := vx_M (k := 19) t3_Qp1 t3_16
  have t5_Pp1 := vx_Mo (k := 17) (a := 17) (b := (Q + 3)) t4_Pp1 (by omega)
  have t5_Pp2 := vx_Mo (k := 17) (a := 17) (b := (Q + 3)) t4_Pp2 (by omega)
  have t5_Pp3 := vx_Mo (k := 17) (a := 17) (b := (Q + 3)) t4_Pp3 (by omega)
  have t5_Qp1 := vx_Mo (k := 17) (a := 17) (b := (Q + 3)) t4_Qp1 (by omega)
  have t5_Qp2 := vx_Mo (k := 17) (a := 17) (b := (Q + 3)) t4_Qp2 (by omega)
  have t5_Qp3 := vx_Mo (k := 17) (a := 17) (b := (Q + 3)) t4_Qp3 (by omega)
  have t5_16 := vx_Mo (k := 17) (a := 17) (b := (Q + 3)) t4_16 (by omega)
  have t5_18 := vx_Mo (k := 17) (a := 17) (b := (Q + 3)) t4_18 (by omega)
  have t5_19 := vx_Mo (k := 17) (a := 17) (b := (Q + 3)) t4_19 (by omega)
  have t5_17 := vx_M (k := 17) t4_17 t4_Qp3
  have t6_Pp1 := vx_Mo (k := 20) (a := (P + 2)) (b := 17) t5_Pp1 (by omega)
  have t6_Pp2 := vx_Mo (k := 20) (a := (P + 2)) (b := 17) t5_Pp2 (by omega)
  have t6_Pp3 := vx_Mo (k := 20) (a := (P + 2)) (b := 17) t5_Pp3 (by omega)
  have t6_Qp1 := vx_Mo (k := 20) (a := (P + 2)) (b := 17) t5_Qp1 (by omega)
  have t6_Qp2 := vx_Mo (k := 20) (a := (P + 2)) (b := 17) t5_Qp2 (by omega)
  have t6_Qp3 := vx_Mo (k := 20) (a := (P + 2)) (b := 17) t5_Qp3 (by omega)
  have t6_16 := vx_Mo (k := 20) (a := (P + 2)) (b := 17) t5_16 (by omega)
  have t6_17 := vx_Mo (k := 20) (a := (P + 2)) (b := 17) t5_17 (by omega)
  have t6_18 := vx_Mo (k := 20) (a := (P + 2)) (b := 17) t5_18 (by omega)
  have t6_19 := vx_Mo (k := 20) (a := (P + 2)) (b := 17) t5_19 (by omega)
  have t6_20 := vx_M (k := 20) t5_Pp2 t5_17
  have t7_Pp1 := vx_Mo (k := 16) (a := 16) (b := (P + 3)) t6_Pp1 (by omega)
  have t7_Pp2 := vx_Mo (k := 16) (a := 16) (b := (P + 3)) t6_Pp2 (by omega)
  have t7_Pp3 := vx_Mo (k := 16) (a := 16) (b := (P + 3)) t6_Pp3 (by omega)
  have t7_Qp1 := vx_Mo (k := 16) (a := 16) (b := (P + 3)) t6_Qp1 (by omega)
  have t7_Qp2 := vx_Mo (k := 16) (a := 16) (b := (P + 3)) t6_Qp2 (by omega)
  have t7_Qp3 := vx_Mo (k := 16) (a := 16) (b := (P + 3)) t6_Qp3 (by omega)
  have t7_17 := vx_Mo (k := 16) (a := 16) (b := (P + 3)) t6_17 (by omega)
  have t7_18 := vx_Mo (k := 16) (a := 16) (b := (P + 3)) t6_18 (by omega)
  have t7_19 := vx_Mo (k := 16) (a := 16) (b := (P + 3)) t6_19 (by omega)
  have t7_20 := vx_Mo (k := 16) (a := 16) (b := (P + 3)) t6_20 (by omega)
  have t7_16 := vx_M (k := 16) t6_16 t6_Pp3
  have t8_Pp1 := vx_Mo (k := 21) (a := (Q + 2)) (b := 16) t7_Pp1 (by omega)
  have t8_Pp2 := vx_Mo (k := 21) (a := (Q + 2)) (b := 16) t7_Pp2 (by omega)
  have t8_Pp3 := vx_Mo (k := 21) (a := (Q + 2)) (b := 16) t7_Pp3 (by omega)
  have t8_Qp1 := vx_Mo (k := 21) (a := (Q + 2)) (b := 16) t7_Qp1 (by omega)
  have t8_Qp2 := vx_Mo (k := 21) (a := (Q + 2)) (b := 16) t7_Qp2 (by omega)
  have t8_Qp3 := vx_Mo (k := 21) (a := (Q + 2)) (b := 16) t7_Qp3 (by omega)
  have t8_16 := vx_Mo (k := 21) (a := (Q + 2)) (b := 16) t7_16 (by omega)
  have t8_17 := vx_Mo (k := 21) (a := (Q + 2)) (b := 16) t7_17 (by omega)
  have t8_18 := vx_Mo (k := 21) (a := (Q + 2)) (b := 16) t7_18 (by omega)
  have t8_19 := vx_Mo (k := 21) (a := (Q + 2)) (b := 16) t7_19 (by omega)
  have t8_20 := vx_Mo (k := 21) (a := (Q + 2)) (b := 16) t7_20 (by omega)
  have t8_21 := vx_M (k := 21) t7_Qp2 t7_16
  have t9_Pp1 := vx_So (k := 19) (a := 19) (b := 18) t8_Pp1 (by omega)
  have t9_Pp2 := vx_So (k := 19) (a := 19) (b := 18) t8_Pp2 (by omega)
  have t9_Pp3 := vx_So (k := 19) (a := 19) (b := 18) t8_Pp3 (by omega)
  have t9_Qp1 := vx_So (k := 19) (a := 19) (b := 18) t8_Qp1 (by omega)
  have t9_Qp2 := vx_So (k := 19) (a := 19) (b := 18) t8_Qp2 (by omega)
  have t9_Qp3 := vx_So (k := 19) (a := 19) (b := 18) t8_Qp3 (by omega)
  have t9_16 := vx_So (k := 19) (a := 19) (b := 18) t8_16 (by omega)
  have t9_17 := vx_So (k := 19) (a := 19) (b := 18) t8_17 (by omega)
  have t9_18 := vx_So (k := 19) (a := 19) (b := 18) t8_18 (by omega)
  have t9_20 := vx_So (k := 19) (a := 19) (b := 18) t8_20 (by omega)
  have t9_21 := vx_So (k := 19) (a := 19) (b := 18) t8_21 (by omega)
  have t9_19 := vx_S (k := 19) t8_19 t8_18
  have t10_Pp1 := vx_So (k := 21) (a := 21) (b := 20) t9_Pp1 (by omega)
  have t10_Pp2 := vx_So (k := 21) (a := 21) (b := 20) t9_Pp2 (by omega)
  have t10_Pp3 := vx_So (k := 21) (a := 21) (b := 20) t9_Pp3 (by omega)
  have t10_Qp1 := vx_So (k := 21) (a := 21) (b := 20) t9_Qp1 (by omega)
  have t10_Qp2 := vx_So (k := 21) (a := 21) (b := 20) t9_Qp2 (by omega)
  have t10_Qp3 := vx_So (k := 21) (a := 21) (b := 20) t9_Qp3 (by omega)
  have t10_16 := vx_So (k := 21) (a := 21) (b := 20) t9_16 (by omega)
  have t10_17 := vx_So (k := 21) (a := 21) (b := 20) t9_17 (by omega)
  have t10_18 := vx_So (k := 21) (a := 21) (b := 20) t9_18 (by omega)
  have t10_19 := vx_So (k := 21) (a := 21) (b := 20) t9_19 (by omega)
  have t10_20 := vx_So (k := 21) (a := 21) (b := 20) t9_20 (by omega)
  have t10_21 := vx_S (k := 21) t9_21 t9_20
  exact ⟨t10_18, t10_19, t10_20, t10_21, t10_Pp1, t10_Pp2, t10_Pp3, t10_Qp1, t10_Qp2, t10_Qp3⟩
noncomputable def aeR (P Q : Nat) (R : Nat → Nat) : Nat → Nat := rSub (P + 2) (P + 2) 20 (rMx 20 20 23 (rMx (P + 2) 21 18 (rSub 18 18 (P + 1) (rSub (P + 1) (P + 1) 18 (rSub (P + 1) (P + 1) 18 (rSub (P + 1) (P + 1) 23 (rMx (P + 1) 21 21 (rMx 18 18 22 (rMx 23 19 22 (rMx 22 19 19 (rMx (P + 3) (P + 3) 19 (rMx (P + 3) (P + 3) (Q + 3) R))))))))))))
theorem aeR_o {R : Nat → Nat} {j P Q : Nat} (hPp3 : j ≠ (P + 3)) (h22 : j ≠ 22) (h23 : j ≠ 23) (h18 : j ≠ 18) (hPp1 : j ≠ (P + 1)) (hPp2 : j ≠ (P + 2)) (h20 : j ≠ 20) : aeR P Q R j = R j := by
  unfold aeR
  exact (up_ne hPp2).trans ((up_ne h20).trans ((up_ne hPp2).trans ((up_ne h18).trans ((up_ne hPp1).trans ((up_ne hPp1).trans ((up_ne hPp1).trans ((up_ne hPp1).trans ((up_ne h18).trans ((up_ne h23).trans ((up_ne h22).trans ((up_ne hPp3).trans (up_ne hPp3))))))))))))
theorem aeR_v {R : Nat → Nat} {P Q : Nat} {x18 x19 x20 x21 xPp1 xPp2 xPp3 xQp3 : Fp} (hP60 : 60 ≤ P) (hQ60 : 60 ≤ Q) (hPQ : P + 4 ≤ Q ∨ Q + 4 ≤ P) (t0_18 : vx R 18 x18) (t0_19 : vx R 19 x19) (t0_20 : vx R 20 x20) (t0_21 : vx R 21 x21) (t0_Pp1 : vx R (P + 1) xPp1) (t0_Pp2 : vx R (P + 2) xPp2) (t0_Pp3 : vx R (P + 3) xPp3) (t0_Qp3 : vx R (Q + 3) xQp3) : vx (aeR P Q R) (P + 1) ((((x21 * x21) - (x19 * (x19 * x19))) - (x18 * (x19 * x19))) - (x18 * (x19 * x19))) ∧ vx (aeR P Q R) (P + 2) ((x21 * ((x18 * (x19 * x19)) - ((((x21 * x21) - (x19 * (x19 * x19))) - (x18 * (x19 * x19))) - (x18 * (x19 * x19))))) - (x20 * (x19 * (x19 * x19)))) ∧ vx (aeR P Q R) (P + 3) ((xPp3 * xQp3) * x19) := by
  have t1_18 := vx_Mo (k := (P + 3)) (a := (P + 3)) (b := (Q + 3)) t0_18 (by omega)
  have t1_19 := vx_Mo (k := (P + 3)) (a := (P + 3)) (b := (Q + 3)) t0_19 (by omega)
  have t1_20 := vx_Mo (k := (P + 3)) (a := (P + 3)) (b := (Q + 3)) t0_20 (by omega)
  have t1_21 := vx_Mo (k := (P + 3)) (a := (P + 3)) (b := (Q + 3)) t0_21 (by omega)
  have t1_Pp1 := vx_Mo (k := (P + 3)) (a := (P + 3)) (b := (Q + 3)) t0_Pp1 (by omega)
  have t1_Pp2 := vx_Mo (k := (P + 3)) (a := (P + 3)) (b := (Q + 3)) t0_Pp2 (by omega)
  have t1_Qp3 := vx_Mo (k := (P + 3)) (a := (P + 3)) (b := (Q + 3)) t0_Qp3 (by omega)
  have t1_Pp3 := vx_M (k := (P + 3)) t0_Pp3 t0_Qp3
  have t2_18 := vx_Mo (k := (P + 3)) (a := (P + 3)) (b := 19) t1_18 (by omega)
  have t2_19 := vx_Mo (k := (P + 3)) (a := (P + 3)) (b := 19) t1_19 (by omega)
  have t2_20 := vx_Mo (k := (P + 3)) (a := (P + 3)) (b := 19) t1_20 (by omega)
  have t2_21 := vx_Mo (k := (P + 3)) (a := (P + 3)) (b := 19) t1_21 (by omega)
  have t2_Pp1 := vx_Mo (k := (P + 3)) (a := (P + 3)) (b := 19) t1_Pp1 (by omega)
  have t2_Pp2 := vx_Mo (k := (P + 3)) (a := (P + 3)) (b := 19) t1_Pp2 (by omega)
  have t2_Qp3 := vx_Mo (k := (P + 3)) (a := (P + 3)) (b := 19) t1_Qp3 (by omega)
  have t2_Pp3 := vx_M (k := (P + 3)) t1_Pp3 t1_19
  have t3_18 := vx_Mo (k := 22) (a := 19) (b := 19) t2_18 (by omega)
  have t3_19 := vx_Mo (k := 22) (a := 19) (b := 19) t2_19 (by omega)
  have t3_20 := vx_Mo (k := 22) (a := 19) (b := 19) t2_20 (by omega)
  have t3_21 := vx_Mo (k := 22) (a := 19) (b := 19) t2_21 (by omega)
  have t3_Pp1 := vx_Mo (k := 22) (a := 19) (b := 19) t2_Pp1 (by omega)
  have t3_Pp2 := vx_Mo (k := 22) (a := 19) (b := 19) t2_Pp2 (by omega)
  have t3_Pp3 := vx_Mo (k := 22) (a := 19) (b := 19) t2_Pp3 (by omega)
  have t3_Qp3 := vx_Mo (k := 22) (a := 19) (b := 19) t2_Qp3 (by omega)
  have t3_22 := vx_M (k := 22) t2_19 t2_19
  have t4_18 := vx_Mo (k := 23) (a := 19) (b := 22) t3_18 (by omega)
  have t4_19 := vx_Mo (k := 23) (a := 19) (b := 22) t3_19 (by omega)
  have t4_20 := vx_Mo (k := 23) (a := 19) (b := 22) t3_20 (by omega)
  have t4_21 := vx_Mo (k := 23) (a := 19) (b := 22) t3_21 (by omega)
  have t4_Pp1 := vx_Mo (k := 23) (a := 19) (b := 22) t3_Pp1 (by omega)
  have t4_Pp2 := vx_Mo (k := 23) (a := 19) (b := 22) t3_Pp2 (by omega)
  have t4_Pp3 := vx_Mo (k := 23) (a := 19) (b := 22) t3_Pp3 (by omega)
  have t4_Qp3 := vx_Mo (k := 23) (a := 19) (b := 22) t3_Qp3 (by omega)
  have t4_22 := vx_Mo (k := 23) (a := 19) (b := 22) t3_22 (by omega)
  have t4_23 := vx_M (k := 23) t3_19 t3_22
  have t5_19 := vx_Mo (k := 18) (a := 18) (b := 22) t4_19 (by omega)
  have t5_20 := vx_Mo (k := 18) (a := 18) (b := 22) t4_20 (by omega)
  have t5_21 := vx_Mo (k := 18) (a := 18) (b := 22) t4_21 (by omega)
  have t5_Pp1 := vx_Mo (k := 18) (a := 18) (b := 22) t4_Pp1 (by omega)
  have t5_Pp2 := vx_Mo (k := 18) (a := 18) (b := 22) t4_Pp2 (by omega)
  have t5_Pp3 := vx_Mo (k := 18) (a := 18) (b := 22) t4_Pp3 (by omega)
  have t5_Qp3 := vx_Mo (k := 18) (a := 18) (b := 22) t4_Qp3 (by omega)
  have t5_22 := vx_Mo (k := 18) (a := 18) (b := 22) t4_22 (by omega)
  have t5_23 := vx_Mo (k := 18) (a := 18) (b := 22) t4_23 (by omega)
  have t5_18 := vx_M (k := 18) t4_18 t4_22
  have t6_18 := vx_Mo (k := (P + 1)) (a := 21) (b := 21) t5_18 (by omega)
  have t6_19 := vx_Mo (k := (P + 1)) (a := 21) (b := 21) t5_19 (by omega)
  have t6_20 := vx_Mo (k := (P + 1)) (a := 21) (b := 21) t5_20 (by omega)
  have t6_21 := vx_Mo (k := (P + 1)) (a := 21) (b := 21) t5_21 (by omega)
  have t6_Pp2 := vx_Mo (k := (P + 1)) (a := 21) (b := 21) t5_Pp2 (by omega)
  have t6_Pp3 := vx_Mo (k := (P + 1)) (a := 21) (b := 21) t5_Pp3 (by omega)
  have t6_Qp3 := vx_Mo (k := (P + 1)) (a := 21) (b := 21) t5_Qp3 (by omega)
  have t6_22 := vx_Mo (k := (P + 1)) (a := 21) (b := 21) t5_22 (by omega)
  have t6_23 := vx_Mo (k := (P + 1)) (a := 21) (b := 21) t5_23 (by omega)
  have t6_Pp1 := vx_M (k := (P + 1)) t5_21 t5_21
  have t7_18 := vx_So (k := (P + 1)) (a := (P + 1)) (b := 23) t6_18 (by omega)
  have t7_19 := vx_So (k := (P + 1)) (a := (P + 1)) (b := 23) t6_19 (by omega)
  have t7_20 := vx_So (k := (P + 1)) (a := (P + 1)) (b := 23) t6_20 (by omega)
  have t7_21 := vx_So (k := (P + 1)) (a := (P + 1)) (b := 23) t6_21 (by omega)
  have t7_Pp2 := vx_So (k := (P + 1)) (a := (P + 1)) (b := 23) t6_Pp2 (by omega)
  have t7_Pp3 := vx_So (k := (P + 1)) (a := (P + 1)) (b := 23) t6_Pp3 (by omega)
  have t7_Qp3 := vx_So (k := (P + 1)) (a := (P + 1)) (b := 23) t6_Qp3 (by omega)
  have t7_22 := vx_So (k := (P + 1)) (a := (P + 1)) (b := 23) t6_22 (by omega)
  have t7_23 := vx_So (k := (P + 1)) (a := (P + 1)) (b := 23) t6_23 (by omega)
  have t7_Pp1 := vx_S (k := (P + 1)) t6_Pp1 t6_23
  have t8_18 := vx_So (k := (P + 1)) (a := (P + 1)) (b := 18) t7_18 (by omega)
  have t8_19 := vx_So (k := (P + 1)) (a := (P + 1)) (b := 18) t7_19 (by omega)
  have t8_20 := vx_So (k := (P + 1)) (a := (P + 1)) (b := 18) t7_20 (by omega)
  have t8_21 := vx_So (k := (P + 1)) (a := (P + 1)) (b := 18) t7_21 (by omega)
  have t8_Pp2 := vx_So (k := (P + 1)) (a := (P + 1)) (b := 18) t7_Pp2 (by omega)
  have t8_Pp3 := vx_So (k := (P + 1)) (a := (P + 1)) (b := 18) t7_Pp3 (by omega)
  have t8_Qp3 := vx_So (k := (P + 1)) (a := (P + 1)) (b := 18) t7_Qp3 (by omega)
  have t8_22 := vx_So (k := (P + 1)) (a := (P + 1)) (b := 18) t7_22 (by omega)
  have t8_23 := vx_So (k := (P + 1)) (a := (P + 1)) (b := 18) t7_23 (by omega)
  have t8_Pp1 := vx_S (k := (P + 1)) t7_Pp1 t7_18
  have t9_18 := vx_So (k := (P + 1)) (a := (P + 1)) (b := 18) t8_18 (by omega)
  have t9_19 := vx_So (k := (P + 1)) (a := (P + 1)) (b := 18) t8_19 (by omega)
  have t9_20 := vx_So (k := (P + 1)) (a := (P + 1)) (b := 18) t8_20 (by omega)
  have t9_21 := vx_So (k := (P + 1)) (a := (P + 1)) (b := 18) t8_21 (by omega)
  have t9_Pp2 := vx_So (k := (P + 1)) (a := (P + 1)) (b := 18) t8_Pp2 (by omega)
  have t9_Pp3 := vx_So (k := (P + 1)) (a := (P + 1)) (b := 18) t8_Pp3 (by omega)
  have t9_Qp3 := vx_So (k := (P + 1)) (a := (P + 1)) (b := 18) t8_Qp3 (by omega)
  have t9_22 := vx_So (k := (P + 1)) (a := (P + 1)) (b := 18) t8_22 (by omega)
  have t9_23 := vx_So (k := (P + 1)) (a := (P + 1)) (b := 18) t8_23 (by omega)
  have t9_Pp1 := vx_S (k := (P + 1)) t8_Pp1 t8_18
  have t10_19 := vx_So (k := 18) (a := 18) (b := (P + 1)) t9_19 (by omega)
  have t10_20 := vx_So (k := 18) (a := 18) (b := (P + 1)) t9_20 (by omega)
  have t10_21 := vx_So (k := 18) (a := 18) (b := (P + 1)) t9_21 (by omega)
  have t10_Pp1 := vx_So (k := 18) (a := 18) (b := (P + 1)) t9_Pp1 (by omega)
  have t10_Pp2 := vx_So (k := 18) (a := 18) (b := (P + 1)) t9_Pp2 (by omega)
  have t10_Pp3 := vx_So (k := 18) (a := 18) (b := (P + 1)) t9_Pp3 (by omega)
  have t10_Qp3 := vx_So (k := 18) (a := 18) (b := (P + 1)) t9_Qp3 (by omega)
  have t10_22 := vx_So (k := 18) (a := 18) (b := (P + 1)) t9_22 (by omega)
  have t10_23 := vx_So (k := 18) (a := 18) (b := (P + 1)) t9_23 (by omega)
  have t10_18 := vx_S (k := 18) t9_18 t9_Pp1
  have t11_18 := vx_Mo (k := (P + 2)) (a := 21) (b := 18) t10_18 (by omega)
  have t11_19 := vx_Mo (k := (P + 2)) (a := 21) (b := 18) t10_19 (by omega)
  have t11_20 := vx_Mo (k := (P + 2)) (a := 21) (b := 18) t10_20 (by omega)
  have t11_21 := vx_Mo (k := (P + 2)) (a := 21) (b := 18) t10_21 (by omega)
  have t11_Pp1 := vx_Mo (k := (P + 2)) (a := 21) (b := 18) t10_Pp1 (by omega)
  have t11_Pp3 := vx_Mo (k := (P + 2)) (a := 21) (b := 18) t10_Pp3 (by omega)
  have t11_Qp3 := vx_Mo (k := (P + 2)) (a := 21) (b := 18) t10_Qp3 (by omega)
  have t11_22 := vx_Mo (k := (P + 2)) (a := 21) (b := 18) t10_22 (by omega)
  have t11_23 := vx_Mo (k := (P + 2)) (a := 21) (b := 18) t10_23 (by omega)
  have t11_Pp2 := vx_M (k := (P + 2)) t10_21 t10_18
  have t12_18 := vx_Mo (k := 20) (a := 20) (b := 23) t11_18 (by omega)
  have t12_19 := vx_Mo (k := 20) (a := 20) (b := 23) t11_19 (by omega)
  have t12_21 := vx_Mo (k := 20) (a := 20) (b := 23) t11_21 (by omega)
  have t12_Pp1 := vx_Mo (k := 20) (a := 20) (b := 23) t11_Pp1 (by omega)
  have t12_Pp2 := vx_Mo (k := 20) (a := 20) (b := 23) t11_Pp2 (by omega)
  have t12_Pp3 := vx_Mo (k := 20) (a := 20) (b := 23) t11_Pp3 (by omega)
  have t12_Qp3 := vx_Mo (k := 20) (a := 20) (b := 23) t11_Qp3 (by omega)
  have t12_22 := vx_Mo (k := 20) (a := 20) (b := 23) t11_22 (by omega)
  have t12_23 := vx_Mo (k := 20) (a := 20) (b := 23) t11_23 (by omega)
  have t12_20 := vx_M (k := 20) t11_20 t11_23
  have t13_18 := vx_So (k := (P + 2)) (a := (P + 2)) (b := 20) t12_18 (by omega)
  have t13_19 := vx_So (k := (P + 2)) (a := (P + 2)) (b := 20) t12_19 (by omega)
  have t13_20 := vx_So (k := (P + 2)) (a := (P + 2)) (b := 20) t12_20 (by omega)
  have t13_21 := vx_So (k := (P + 2)) (a := (P + 2)) (b := 20) t12_21 (by omega)
  have t13_Pp1 := vx_So (k := (P + 2)) (a := (P + 2)) (b := 20) t12_Pp1 (by omega)
  have t13_Pp3 := vx_So (k := (P + 2)) (a := (P + 2)) (b := 20) t12_Pp3 (by omega)
  have t13_Qp3 := vx_So (k := (P + 2)) (a := (P + 2)) (b := 20) t12_Qp3 (by omega)
  have t13_22 := vx_So (k := (P + 2)) (a := (P + 2)) (b := 20) t12_22 (by omega)
  have t13_23 := vx_So (k := (P + 2)) (a := (P + 2)) (b := 20) t12_23 (by omega)
  have t13_Pp2 := vx_S (k := (P + 2)) t12_Pp2 t12_20
  exact ⟨t13_Pp1, t13_Pp2, t13_Pp3⟩
set_option maxHeartbeats 8000000 in
theorem add_ok (g : GX) (w : XW kd A X R S O F h) {P Q : Nat} (hP : PtK kd A O P) (hQ : PtK kd A O Q) (hP60 : 60 ≤ P) (hQ60 : 60 ≤ Q) (hPQ : P + 4 ≤ Q ∨ Q + 4 ≤ P) (hb : XB R) (hPb : 64 ≤ P) {Pt Qt : PP} (on : OnP Pt) (onq : OnP Qt) (hv : PtV R P Pt) (hvq : PtV R Q Qt) :
    MT g MX5_add ({ frames := 5, cells := 0, slots := 0, locals := 116 } : Room) [.ref (A 11), .ref (A P), .ref (A Q)] h (RV (PtQ kd A X R S O F (ecS P) P (adP Pt Qt))) := by
  refine MT.of (by decide) (Nat.le_of_ble_eq_true rfl) ?_
  obtain ⟨l1, l2, l3⟩ := hP.lt w
  obtain ⟨k1, k2, k3⟩ := hQ.lt w
  refine X_aload_n (pc := 0) 2 dX5_add_0 rfl rfl ?_
  refine X_ivi (pc := 1) _ dX5_add_1 cv_X5_136_5 (hQ.c w) rfl (isNone_ok g w hQ) nX7_isNone (Nat.le_of_ble_eq_true rfl) (Nat.le_of_ble_eq_true rfl) (Nat.le_of_ble_eq_true rfl) (Nat.le_of_ble_eq_true rfl) (fun r h1 q => ?_)
  obtain ⟨er, rfl⟩ := q
  by_cases hz : R (Q + 3) = 0
  · rw [if_pos hz] at er
    subst er
    refine X_if_eq (pc := 4) 8 dX5_add_4 (by decide) (fun c_4 => ?_) (fun c_4 => ?_)
    · exact absurd c_4 (by decide)
    · refine X_return (pc := 7) dX5_add_7 rfl (Nat.le_of_ble_eq_true rfl) (Nat.le_of_ble_eq_true rfl) ?_
      refine ⟨rfl, R, fun _ _ => rfl, ?_, w⟩
      have : Qt = none := Jc.none0 hvq ((vm_0 k3).mpr hz)
      subst this
      rw [ad_none]
      exact hv
  · rw [if_neg hz] at er
    subst er
    refine X_if_eq (pc := 4) 8 dX5_add_4 (by decide) (fun c_4 => ?_) (fun c_4 => ?_)
    · skip
      refine X_aload_n (pc := 8) 1 dX5_add_8 rfl rfl ?_
      refine X_ivi (pc := 9) _ dX5_add_9 cv_X5_136_5 (hP.c w) rfl (isNone_ok g w hP) nX7_isNone (Nat.le_of_ble_eq_true rfl) (Nat.le_of_ble_eq_true rfl) (Nat.le_of_ble_eq_true rfl) (Nat.le_of_ble_eq_true rfl) (fun r2 h2 q2 => ?_)
      obtain ⟨er2, rfl⟩ := q2
      by_cases hzp : R (P + 3) = 0
      · rw [if_pos hzp] at er2
        subst er2
        refine X_if_eq (pc := 12) 21 dX5_add_12 (by decide) (fun c_12 => ?_) (fun c_12 => ?_)
        · exact absurd c_12 (by decide)
        · refine X_aload_n (pc := 15) 1 dX5_add_15 rfl rfl ?_
          refine X_aload_n (pc := 16) 2 dX5_add_16 rfl rfl ?_
          refine X_ivv (pc := 17) _ dX5_add_17 cv_X5_143_5 (hP.c w) rfl (be_ok g w hP hQ) nX7_be (Nat.le_of_ble_eq_true rfl) (Nat.le_of_ble_eq_true rfl) (Nat.le_of_ble_eq_true rfl) (Nat.le_of_ble_eq_true rfl) (fun h3 w3 => ?_)
          refine X_return (pc := 20) dX5_add_20 rfl (Nat.le_of_ble_eq_true rfl) (Nat.le_of_ble_eq_true rfl) ?_
          refine ⟨rfl, _, fun j hj => ?_, ?_, w3⟩
          · have := ecS_ne hj
            exact ((up_ne (by omega)).trans (up_ne (by omega))).trans (up_ne (by omega))
          · have : Pt = none := Jc.none0 hv ((vm_0 l3).mpr hzp)
            subst this
            rw [none_ad]
            have e1 : beR P Q R (P + 1) = R (Q + 1) := ((up_ne (by omega)).trans (up_ne (by omega))).trans (up_same _ _ _)
            have e2 : beR P Q R (P + 2) = R (Q + 2) := ((up_ne (by omega)).trans (up_same _ _ _)).trans (up_ne (by omega))
            have e3 : beR P Q R (P + 3) = R (Q + 3) := (up_same _ _ _).trans ((up_ne (by omega)).trans (up_ne (by omega)))
            unfold PtV
            rw [e1, e2, e3]
            exact hvq
      · rw [if_neg hzp] at er2
        subst er2
        have z1 : vm (R (P + 3)) ≠ 0 := fun z => hzp ((vm_0 l3).mp z)
        have z2 : vm (R (Q + 3)) ≠ 0 := fun z => hz ((vm_0 k3).mp z)
        refine X_if_eq (pc := 12) 21 dX5_add_12 (by decide) (fun c_12 => ?_) (fun c_12 => ?_)
        · skip
          refine X_aload_n (pc := 21) 0 dX5_add_21 rfl rfl ?_
          refine X_getfield (pc := 22) dX5_add_22 fg_X5_22_3 (XW.cv w) rfl ?_
          refine X_aload_n (pc := 25) 1 dX5_add_25 rfl rfl ?_
          refine X_getfield (pc := 26) dX5_add_26 fg_X5_114_5 (PtK.c hP w) rfl ?_
          refine X_aload_n (pc := 29) 1 dX5_add_29 rfl rfl ?_
          refine X_getfield (pc := 30) dX5_add_30 fg_X5_114_5 (PtK.c hP w) rfl ?_
          refine X_aload_n (pc := 33) 0 dX5_add_33 rfl rfl ?_
          refine X_getfield (pc := 34) dX5_add_34 fg_X5_44_3 (XW.cv w) rfl ?_
          refine X_ivv (pc := 37) _ dX5_add_37 cv_X5_140_4 (MoK.ob (XW.mp w) w) rfl (xmPr g w 16 (P + 3) (P + 3) (St.q (XW.k w 16 (by decide))) (Or.inl hP.2.2.2.2) (Or.inl hP.2.2.2.2)) nX6_mul (Nat.le_of_ble_eq_true rfl) (Nat.le_of_ble_eq_true rfl) (Nat.le_of_ble_eq_true rfl) (Nat.le_of_ble_eq_true rfl) (fun h_1 w_1 => ?_)
          have fa_1 := FPk.ofM w_1
          refine X_aload_n (pc := 40) 0 dX5_add_40 rfl rfl ?_
          refine X_getfield (pc := 41) dX5_add_41 fg_X5_22_3 (XW.cv w_1) rfl ?_
          refine X_aload_n (pc := 44) 2 dX5_add_44 rfl rfl ?_
          refine X_getfield (pc := 45) dX5_add_45 fg_X5_114_5 (PtK.c hQ w_1) rfl ?_
          refine X_aload_n (pc := 48) 2 dX5_add_48 rfl rfl ?_
          refine X_getfield (pc := 49) dX5_add_49 fg_X5_114_5 (PtK.c hQ w_1) rfl ?_
          refine X_aload_n (pc := 52) 0 dX5_add_52 rfl rfl ?_
          refine X_getfield (pc := 53) dX5_add_53 fg_X5_47_3 (XW.cv w_1) rfl ?_
          refine X_ivv (pc := 56) _ dX5_add_56 cv_X5_140_4 (MoK.ob (XW.mp w_1) w_1) rfl (xmPr g w_1 17 (Q + 3) (Q + 3) (St.p (XW.k w_1 17 (by decide))) (Or.inl hQ.2.2.2.2) (Or.inl hQ.2.2.2.2)) nX6_mul (Nat.le_of_ble_eq_true rfl) (Nat.le_of_ble_eq_true rfl) (Nat.le_of_ble_eq_true rfl) (Nat.le_of_ble_eq_true rfl) (fun h_2 w_2 => ?_)
          have fa_2 := FPk.kM w_2 fa_1 (by omega)
          refine X_aload_n (pc := 59) 0 dX5_add_59 rfl rfl ?_
          refine X_getfield (pc := 60) dX5_add_60 fg_X5_22_3 (XW.cv w_2) rfl ?_
          refine X_aload_n (pc := 63) 1 dX5_add_63 rfl rfl ?_
          refine X_getfield (pc := 64) dX5_add_64 fg_X5_103_5 (PtK.c hP w_2) rfl ?_
          refine X_aload_n (pc := 67) 0 dX5_add_67 rfl rfl ?_
          refine X_getfield (pc := 68) dX5_add_68 fg_X5_47_3 (XW.cv w_2) rfl ?_
          refine X_aload_n (pc := 71) 0 dX5_add_71 rfl rfl ?_
          refine X_getfield (pc := 72) dX5_add_72 fg_X5_50_3 (XW.cv w_2) rfl ?_
          refine X_ivv (pc := 75) _ dX5_add_75 cv_X5_140_4 (MoK.ob (XW.mp w_2) w_2) rfl (xmPr g w_2 18 (P + 1) 17 (St.p (XW.k w_2 18 (by decide))) (Or.inl hP.2.2.1) (Or.inl (XW.k w_2 17 (by decide)))) nX6_mul (Nat.le_of_ble_eq_true rfl) (Nat.le_of_ble_eq_true rfl) (Nat.le_of_ble_eq_true rfl) (Nat.le_of_ble_eq_true rfl) (fun h_3 w_3 => ?_)
          have fa_3 := FPk.kM w_3 fa_2 (by omega)
          refine X_aload_n (pc := 78) 0 dX5_add_78 rfl rfl ?_
          refine X_getfield (pc := 79) dX5_add_79 fg_X5_22_3 (XW.cv w_3) rfl ?_
          refine X_aload_n (pc := 82) 2 dX5_add_82 rfl rfl ?_
          refine X_getfield (pc := 83) dX5_add_83 fg_X5_103_5 (PtK.c hQ w_3) rfl ?_
          refine X_aload_n (pc := 86) 0 dX5_add_86 rfl rfl ?_
          refine X_getfield (pc := 87) dX5_add_87 fg_X5_44_3 (XW.cv w_3) rfl ?_
          refine X_aload_n (pc := 90) 0 dX5_add_90 rfl rfl ?_
          refine X_getfield (pc := 91) dX5_add_91 fg_X5_53_3 (XW.cv w_3) rfl ?_
          refine X_ivv (pc := 94) _ dX5_add_94 cv_X5_140_4 (MoK.ob (XW.mp w_3) w_3) rfl (xmPr g w_3 19 (Q + 1) 16 (St.p (XW.k w_3 19 (by decide))) (Or.inl hQ.2.2.1) fa_3) nX6_mul (Nat.le_of_ble_eq_true rfl) (Nat.le_of_ble_eq_true rfl) (Nat.le_of_ble_eq_true rfl) (Nat.le_of_ble_eq_true rfl) (fun h_4 w_4 => ?_)
          have fa_4 := FPk.kM w_4 fa_3 (by omega)
          refine X_aload_n (pc := 97) 0 dX5_add_97 rfl rfl ?_
          refine X_getfield (pc := 98) dX5_add_98 fg_X5_22_3 (XW.cv w_4) rfl ?_
          refine X_aload_n (pc := 101) 0 dX5_add_101 rfl rfl ?_
          refine X_getfield (pc := 102) dX5_add_102 fg_X5_47_3 (XW.cv w_4) rfl ?_
          refine X_aload_n (pc := 105) 2 dX5_add_105 rfl rfl ?_
          refine X_getfield (pc := 106) dX5_add_106 fg_X5_114_5 (PtK.c hQ w_4) rfl ?_
          refine X_aload_n (pc := 109) 0 dX5_add_109 rfl rfl ?_
          refine X_getfield (pc := 110) dX5_add_110 fg_X5_47_3 (XW.cv w_4) rfl ?_
          refine X_ivv (pc := 113) _ dX5_add_113 cv_X5_140_4 (MoK.ob (XW.mp w_4) w_4) rfl (xmPr g w_4 17 17 (Q + 3) (St.p (XW.k w_4 17 (by decide))) (Or.inl (XW.k w_4 17 (by decide))) (Or.inl hQ.2.2.2.2)) nX6_mul (Nat.le_of_ble_eq_true rfl) (Nat.le_of_ble_eq_true rfl) (Nat.le_of_ble_eq_true rfl) (Nat.le_of_ble_eq_true rfl) (fun h_5 w_5 => ?_)
          have fa_5 := FPk.kM w_5 fa_4 (by omega)
          refine X_aload_n (pc := 116) 0 dX5_add_116 rfl rfl ?_
          refine X_getfield (pc := 117) dX5_add_117 fg_X5_22_3 (XW.cv w_5) rfl ?_
          refine X_aload_n (pc := 120) 1 dX5_add_120 rfl rfl ?_
          refine X_getfield (pc := 121) dX5_add_121 fg_X5_108_5 (PtK.c hP w_5) rfl ?_
          refine X_aload_n (pc := 124) 0 dX5_add_124 rfl rfl ?_
          refine X_getfield (pc := 125) dX5_add_125 fg_X5_47_3 (XW.cv w_5) rfl ?_
          refine X_aload_n (pc := 128) 0 dX5_add_128 rfl rfl ?_
          refine X_getfield (pc := 129) dX5_add_129 fg_X5_56_3 (XW.cv w_5) rfl ?_
          refine X_ivv (pc := 132) _ dX5_add_132 cv_X5_140_4 (MoK.ob (XW.mp w_5) w_5) rfl (xmPr g w_5 20 (P + 2) 17 (St.p (XW.k w_5 20 (by decide))) (Or.inl hP.2.2.2.1) (Or.inl (XW.k w_5 17 (by decide)))) nX6_mul (Nat.le_of_ble_eq_true rfl) (Nat.le_of_ble_eq_true rfl) (Nat.le_of_ble_eq_true rfl) (Nat.le_of_ble_eq_true rfl) (fun h_6 w_6 => ?_)
          have fa_6 := FPk.kM w_6 fa_5 (by omega)
          refine X_aload_n (pc := 135) 0 dX5_add_135 rfl rfl ?_
          refine X_getfield (pc := 136) dX5_add_136 fg_X5_22_3 (XW.cv w_6) rfl ?_
          refine X_aload_n (pc := 139) 0 dX5_add_139 rfl rfl ?_
          refine X_getfield (pc := 140) dX5_add_140 fg_X5_44_3 (XW.cv w_6) rfl ?_
          refine X_aload_n (pc := 143) 1 dX5_add_143 rfl rfl ?_
          refine X_getfield (pc := 144) dX5_add_144 fg_X5_114_5 (PtK.c hP w_6) rfl ?_
          refine X_aload_n (pc := 147) 0 dX5_add_147 rfl rfl ?_
          refine X_getfield (pc := 148) dX5_add_148 fg_X5_44_3 (XW.cv w_6) rfl ?_
          refine X_ivv (pc := 151) _ dX5_add_151 cv_X5_140_4 (MoK.ob (XW.mp w_6) w_6) rfl (xmPr g w_6 16 16 (P + 3) (St.q (XW.k w_6 16 (by decide))) fa_6 (Or.inl hP.2.2.2.2)) nX6_mul (Nat.le_of_ble_eq_true rfl) (Nat.le_of_ble_eq_true rfl) (Nat.le_of_ble_eq_true rfl) (Nat.le_of_ble_eq_true rfl) (fun h_7 w_7 => ?_)
          have fa_7 := FPk.ofM w_7
          refine X_aload_n (pc := 154) 0 dX5_add_154 rfl rfl ?_
          refine X_getfield (pc := 155) dX5_add_155 fg_X5_22_3 (XW.cv w_7) rfl ?_
          refine X_aload_n (pc := 158) 2 dX5_add_158 rfl rfl ?_
          refine X_getfield (pc := 159) dX5_add_159 fg_X5_108_5 (PtK.c hQ w_7) rfl ?_
          refine X_aload_n (pc := 162) 0 dX5_add_162 rfl rfl ?_
          refine X_getfield (pc := 163) dX5_add_163 fg_X5_44_3 (XW.cv w_7) rfl ?_
          refine X_aload_n (pc := 166) 0 dX5_add_166 rfl rfl ?_
          refine X_getfield (pc := 167) dX5_add_167 fg_X5_59_3 (XW.cv w_7) rfl ?_
          refine X_ivv (pc := 170) _ dX5_add_170 cv_X5_140_4 (MoK.ob (XW.mp w_7) w_7) rfl (xmPr g w_7 21 (Q + 2) 16 (St.p (XW.k w_7 21 (by decide))) (Or.inl hQ.2.2.2.1) fa_7) nX6_mul (Nat.le_of_ble_eq_true rfl) (Nat.le_of_ble_eq_true rfl) (Nat.le_of_ble_eq_true rfl) (Nat.le_of_ble_eq_true rfl) (fun h_8 w_8 => ?_)
          have fa_8 := FPk.kM w_8 fa_7 (by omega)
          refine X_aload_n (pc := 173) 0 dX5_add_173 rfl rfl ?_
          refine X_getfield (pc := 174) dX5_add_174 fg_X5_22_3 (XW.cv w_8) rfl ?_
          refine X_aload_n (pc := 177) 0 dX5_add_177 rfl rfl ?_
          refine X_getfield (pc := 178) dX5_add_178 fg_X5_53_3 (XW.cv w_8) rfl ?_
          refine X_aload_n (pc := 181) 0 dX5_add_181 rfl rfl ?_
          refine X_getfield (pc := 182) dX5_add_182 fg_X5_50_3 (XW.cv w_8) rfl ?_
          refine X_aload_n (pc := 185) 0 dX5_add_185 rfl rfl ?_
          refine X_getfield (pc := 186) dX5_add_186 fg_X5_53_3 (XW.cv w_8) rfl ?_
          refine X_ivv (pc := 189) _ dX5_add_189 cv_X5_133_4 (MoK.ob (XW.mp w_8) w_8) rfl (xsPr g w_8 19 19 18 (St.p (XW.k w_8 19 (by decide))) (Or.inl (XW.k w_8 19 (by decide))) (Or.inl (XW.k w_8 18 (by decide)))) nX6_sub (Nat.le_of_ble_eq_true rfl) (Nat.le_of_ble_eq_true rfl) (Nat.le_of_ble_eq_true rfl) (Nat.le_of_ble_eq_true rfl) (fun h_9 w_9 => ?_)
          have fa_9 := FPk.kS w_9 fa_8 (by omega)
          refine X_aload_n (pc := 192) 0 dX5_add_192 rfl rfl ?_
          refine X_getfield (pc := 193) dX5_add_193 fg_X5_22_3 (XW.cv w_9) rfl ?_
          refine X_aload_n (pc := 196) 0 dX5_add_196 rfl rfl ?_
          refine X_getfield (pc := 197) dX5_add_197 fg_X5_59_3 (XW.cv w_9) rfl ?_
          refine X_aload_n (pc := 200) 0 dX5_add_200 rfl rfl ?_
          refine X_getfield (pc := 201) dX5_add_201 fg_X5_56_3 (XW.cv w_9) rfl ?_
          refine X_aload_n (pc := 204) 0 dX5_add_204 rfl rfl ?_
          refine X_getfield (pc := 205) dX5_add_205 fg_X5_59_3 (XW.cv w_9) rfl ?_
          refine X_ivv (pc := 208) _ dX5_add_208 cv_X5_133_4 (MoK.ob (XW.mp w_9) w_9) rfl (xsPr g w_9 21 21 20 (St.p (XW.k w_9 21 (by decide))) (Or.inl (XW.k w_9 21 (by decide))) (Or.inl (XW.k w_9 20 (by decide)))) nX6_sub (Nat.le_of_ble_eq_true rfl) (Nat.le_of_ble_eq_true rfl) (Nat.le_of_ble_eq_true rfl) (Nat.le_of_ble_eq_true rfl) (fun h_10 w_10 => ?_)
          have fa_10 := FPk.kS w_10 fa_9 (by omega)
          have wA : XW kd A X (adR P Q R) S O F _ := w_10
          obtain ⟨v18, v19, v20, v21, vp1, vp2, vp3, vq1, vq2, vq3⟩ := adR_v (R := R) hP60 hQ60 (P := P) (Q := Q) ⟨rfl, l1⟩ ⟨rfl, l2⟩ ⟨rfl, l3⟩ ⟨rfl, k1⟩ ⟨rfl, k2⟩ ⟨rfl, k3⟩
          have frA : ∀ j, ecS P j = false → adR P Q R j = R j := fun j hj => by
            have := ecS_ne hj
            exact adR_o (by omega) (by omega) (by omega) (by omega) (by omega) (by omega)
          have xbA : XB (adR P Q R) := hb.fr fun j hj => frA j (ecS_f (by omega) (by omega) (by omega) (by omega))
          generalize adR P Q R = RA at wA v18 v19 v20 v21 vp1 vp2 vp3 vq1 vq2 vq3 frA xbA
          refine X_aload_n (pc := 211) 0 dX5_add_211 rfl rfl ?_
          refine X_getfield (pc := 212) dX5_add_212 fg_X5_53_3 (XW.cv wA) (by first | rfl | assumption) ?_
          refine X_isi (pc := 215) _ dX5_add_215 cs_X5_147 rfl (xzeroW g (OpX.n wA 19 (wA.k 19 (by decide))) (by decide)) nX6_isZero (Nat.le_of_ble_eq_true rfl) (Nat.le_of_ble_eq_true rfl) (Nat.le_of_ble_eq_true rfl) (Nat.le_of_ble_eq_true rfl) (fun r5 h5 q5 => ?_)
          obtain ⟨er5, rfl⟩ := q5
          by_cases hE : RA 19 = 0
          · rw [if_pos hE] at er5
            subst er5
            have he0 : vm (R (Q + 1)) * (vm (R (P + 3)) * vm (R (P + 3))) - vm (R (P + 1)) * (vm (R (Q + 3)) * vm (R (Q + 3))) = 0 := by rw [← v19.1]; exact (vm_0 v19.2).mpr hE
            obtain ⟨sm1, sm2⟩ := Jc_same on onq hv hvq z1 z2 he0
            refine X_if_eq (pc := 218) 244 dX5_add_218 (by decide) (fun c_218 => ?_) (fun c_218 => ?_)
            · exact absurd c_218 (by decide)
            · refine X_aload_n (pc := 221) 0 dX5_add_221 rfl rfl ?_
              refine X_getfield (pc := 222) dX5_add_222 fg_X5_59_3 (XW.cv wA) (by first | rfl | assumption) ?_
              refine X_isi (pc := 225) _ dX5_add_225 cs_X5_147 rfl (xzeroW g (OpX.n wA 21 (wA.k 21 (by decide))) (by decide)) nX6_isZero (Nat.le_of_ble_eq_true rfl) (Nat.le_of_ble_eq_true rfl) (Nat.le_of_ble_eq_true rfl) (Nat.le_of_ble_eq_true rfl) (fun r6 h6 q6 => ?_)
              obtain ⟨er6, rfl⟩ := q6
              by_cases hG : RA 21 = 0
              · rw [if_pos hG] at er6
                subst er6
                have hPQt : Pt = Qt := sm1 (by rw [← v21.1]; exact (vm_0 v21.2).mpr hG)
                subst hPQt
                have hvA : PtV RA P Pt := by
                  unfold PtV
                  rw [vp1.1, vp2.1, vp3.1]
                  exact hv
                refine X_if_eq (pc := 228) 239 dX5_add_228 (by decide) (fun c_228 => ?_) (fun c_228 => ?_)
                · exact absurd c_228 (by decide)
                · refine X_aload_n (pc := 231) 0 dX5_add_231 rfl rfl ?_
                  refine X_aload_n (pc := 232) 1 dX5_add_232 rfl rfl ?_
                  refine X_ivv (pc := 233) _ dX5_add_233 cv_X5_151_3 (XW.cv wA) rfl (twice_ok g wA hP hP60 xbA on hvA) nX5_twice (Nat.le_of_ble_eq_true rfl) (Nat.le_of_ble_eq_true rfl) (Nat.le_of_ble_eq_true rfl) (Nat.le_of_ble_eq_true rfl) (fun h7 q7 => ?_)
                  obtain ⟨R7, f7, v7, w7⟩ := q7
                  refine X_goto (pc := 236) 243 dX5_add_236 (by decide) ?_
                  refine X_return (pc := 243) dX5_add_243 rfl (Nat.le_of_ble_eq_true rfl) (Nat.le_of_ble_eq_true rfl) ?_
                  exact ⟨rfl, R7, fun j hj => by rw [f7 j hj, frA j hj], v7, w7⟩
              · rw [if_neg hG] at er6
                subst er6
                have hno : adP Pt Qt = none := sm2 (by rw [← v21.1]; exact fun z => hG ((vm_0 v21.2).mp z))
                refine X_if_eq (pc := 228) 239 dX5_add_228 (by decide) (fun c_228 => ?_) (fun c_228 => ?_)
                · refine X_aload_n (pc := 239) 1 dX5_add_239 rfl rfl ?_
                  refine X_ivv (pc := 240) _ dX5_add_240 cv_X5_154_5 (hP.c wA) rfl (vanish_ok g wA hP) nX7_vanish (Nat.le_of_ble_eq_true rfl) (Nat.le_of_ble_eq_true rfl) (Nat.le_of_ble_eq_true rfl) (Nat.le_of_ble_eq_true rfl) (fun h7 w7 => ?_)
                  refine X_return (pc := 243) dX5_add_243 rfl (Nat.le_of_ble_eq_true rfl) (Nat.le_of_ble_eq_true rfl) ?_
                  refine ⟨rfl, _, fun j hj => ?_, ?_, w7⟩
                  · have := ecS_ne hj
                    rw [up_ne (by omega), frA j hj]
                  · rw [hno]
                    unfold PtV
                    rw [up_same]
                    exact (vm_0 pP_pos).mpr rfl
                · exact absurd rfl c_228
          · rw [if_neg hE] at er5
            subst er5
            refine X_if_eq (pc := 218) 244 dX5_add_218 (by decide) (fun c_218 => ?_) (fun c_218 => ?_)
            · skip
              refine X_aload_n (pc := 244) 0 dX5_add_244 rfl rfl ?_
              refine X_getfield (pc := 245) dX5_add_245 fg_X5_22_3 (XW.cv wA) rfl ?_
              refine X_aload_n (pc := 248) 1 dX5_add_248 rfl rfl ?_
              refine X_getfield (pc := 249) dX5_add_249 fg_X5_114_5 (PtK.c hP wA) rfl ?_
              refine X_aload_n (pc := 252) 2 dX5_add_252 rfl rfl ?_
              refine X_getfield (pc := 253) dX5_add_253 fg_X5_114_5 (PtK.c hQ wA) rfl ?_
              refine X_aload_n (pc := 256) 1 dX5_add_256 rfl rfl ?_
              refine X_getfield (pc := 257) dX5_add_257 fg_X5_114_5 (PtK.c hP wA) rfl ?_
              refine X_ivv (pc := 260) _ dX5_add_260 cv_X5_140_4 (MoK.ob (XW.mp wA) wA) rfl (xmPr g wA (P + 3) (P + 3) (Q + 3) (St.p hP.2.2.2.2) (Or.inl hP.2.2.2.2) (Or.inl hQ.2.2.2.2)) nX6_mul (Nat.le_of_ble_eq_true rfl) (Nat.le_of_ble_eq_true rfl) (Nat.le_of_ble_eq_true rfl) (Nat.le_of_ble_eq_true rfl) (fun h_1 w_1 => ?_)
              refine X_aload_n (pc := 263) 0 dX5_add_263 rfl rfl ?_
              refine X_getfield (pc := 264) dX5_add_264 fg_X5_22_3 (XW.cv w_1) rfl ?_
              refine X_aload_n (pc := 267) 1 dX5_add_267 rfl rfl ?_
              refine X_getfield (pc := 268) dX5_add_268 fg_X5_114_5 (PtK.c hP w_1) rfl ?_
              refine X_aload_n (pc := 271) 0 dX5_add_271 rfl rfl ?_
              refine X_getfield (pc := 272) dX5_add_272 fg_X5_53_3 (XW.cv w_1) rfl ?_
              refine X_aload_n (pc := 275) 1 dX5_add_275 rfl rfl ?_
              refine X_getfield (pc := 276) dX5_add_276 fg_X5_114_5 (PtK.c hP w_1) rfl ?_
              refine X_ivv (pc := 279) _ dX5_add_279 cv_X5_140_4 (MoK.ob (XW.mp w_1) w_1) rfl (xmPr g w_1 (P + 3) (P + 3) 19 (St.p hP.2.2.2.2) (Or.inl hP.2.2.2.2) (Or.inl (XW.k w_1 19 (by decide)))) nX6_mul (Nat.le_of_ble_eq_true rfl) (Nat.le_of_ble_eq_true rfl) (Nat.le_of_ble_eq_true rfl) (Nat.le_of_ble_eq_true rfl) (fun h_2 w_2 => ?_)
              refine X_aload_n (pc := 282) 0 dX5_add_282 rfl rfl ?_
              refine X_getfield (pc := 283) dX5_add_283 fg_X5_22_3 (XW.cv w_2) rfl ?_
              refine X_aload_n (pc := 286) 0 dX5_add_286 rfl rfl ?_
              refine X_getfield (pc := 287) dX5_add_287 fg_X5_53_3 (XW.cv w_2) rfl ?_
              refine X_aload_n (pc := 290) 0 dX5_add_290 rfl rfl ?_
              refine X_getfield (pc := 291) dX5_add_291 fg_X5_53_3 (XW.cv w_2) rfl ?_
              refine X_aload_n (pc := 294) 0 dX5_add_294 rfl rfl ?_
              refine X_getfield (pc := 295) dX5_add_295 fg_X5_62_3 (XW.cv w_2) rfl ?_
              refine X_ivv (pc := 298) _ dX5_add_298 cv_X5_140_4 (MoK.ob (XW.mp w_2) w_2) rfl (xmPr g w_2 22 19 19 (St.p (XW.k w_2 22 (by decide))) (Or.inl (XW.k w_2 19 (by decide))) (Or.inl (XW.k w_2 19 (by decide)))) nX6_mul (Nat.le_of_ble_eq_true rfl) (Nat.le_of_ble_eq_true rfl) (Nat.le_of_ble_eq_true rfl) (Nat.le_of_ble_eq_true rfl) (fun h_3 w_3 => ?_)
              refine X_aload_n (pc := 301) 0 dX5_add_301 rfl rfl ?_
              refine X_getfield (pc := 302) dX5_add_302 fg_X5_22_3 (XW.cv w_3) rfl ?_
              refine X_aload_n (pc := 305) 0 dX5_add_305 rfl rfl ?_
              refine X_getfield (pc := 306) dX5_add_306 fg_X5_53_3 (XW.cv w_3) rfl ?_
              refine X_aload_n (pc := 309) 0 dX5_add_309 rfl rfl ?_
              refine X_getfield (pc := 310) dX5_add_310 fg_X5_62_3 (XW.cv w_3) rfl ?_
              refine X_aload_n (pc := 313) 0 dX5_add_313 rfl rfl ?_
              refine X_getfield (pc := 314) dX5_add_314 fg_X5_65_3 (XW.cv w_3) rfl ?_
              refine X_ivv (pc := 317) _ dX5_add_317 cv_X5_140_4 (MoK.ob (XW.mp w_3) w_3) rfl (xmPr g w_3 23 19 22 (St.p (XW.k w_3 23 (by decide))) (Or.inl (XW.k w_3 19 (by decide))) (Or.inl (XW.k w_3 22 (by decide)))) nX6_mul (Nat.le_of_ble_eq_true rfl) (Nat.le_of_ble_eq_true rfl) (Nat.le_of_ble_eq_true rfl) (Nat.le_of_ble_eq_true rfl) (fun h_4 w_4 => ?_)
              refine X_aload_n (pc := 320) 0 dX5_add_320 rfl rfl ?_
              refine X_getfield (pc := 321) dX5_add_321 fg_X5_22_3 (XW.cv w_4) rfl ?_
              refine X_aload_n (pc := 324) 0 dX5_add_324 rfl rfl ?_
              refine X_getfield (pc := 325) dX5_add_325 fg_X5_50_3 (XW.cv w_4) rfl ?_
              refine X_aload_n (pc := 328) 0 dX5_add_328 rfl rfl ?_
              refine X_getfield (pc := 329) dX5_add_329 fg_X5_62_3 (XW.cv w_4) rfl ?_
              refine X_aload_n (pc := 332) 0 dX5_add_332 rfl rfl ?_
              refine X_getfield (pc := 333) dX5_add_333 fg_X5_50_3 (XW.cv w_4) rfl ?_
              refine X_ivv (pc := 336) _ dX5_add_336 cv_X5_140_4 (MoK.ob (XW.mp w_4) w_4) rfl (xmPr g w_4 18 18 22 (St.p (XW.k w_4 18 (by decide))) (Or.inl (XW.k w_4 18 (by decide))) (Or.inl (XW.k w_4 22 (by decide)))) nX6_mul (Nat.le_of_ble_eq_true rfl) (Nat.le_of_ble_eq_true rfl) (Nat.le_of_ble_eq_true rfl) (Nat.le_of_ble_eq_true rfl) (fun h_5 w_5 => ?_)
              refine X_aload_n (pc := 339) 0 dX5_add_339 rfl rfl ?_
              refine X_getfield (pc := 340) dX5_add_340 fg_X5_22_3 (XW.cv w_5) rfl ?_
              refine X_aload_n (pc := 343) 0 dX5_add_343 rfl rfl ?_
              refine X_getfield (pc := 344) dX5_add_344 fg_X5_59_3 (XW.cv w_5) rfl ?_
              refine X_aload_n (pc := 347) 0 dX5_add_347 rfl rfl ?_
              refine X_getfield (pc := 348) dX5_add_348 fg_X5_59_3 (XW.cv w_5) rfl ?_
              refine X_aload_n (pc := 351) 1 dX5_add_351 rfl rfl ?_
              refine X_getfield (pc := 352) dX5_add_352 fg_X5_103_5 (PtK.c hP w_5) rfl ?_
              refine X_ivv (pc := 355) _ dX5_add_355 cv_X5_140_4 (MoK.ob (XW.mp w_5) w_5) rfl (xmPr g w_5 (P + 1) 21 21 (St.p hP.2.2.1) (Or.inl (XW.k w_5 21 (by decide))) (Or.inl (XW.k w_5 21 (by decide)))) nX6_mul (Nat.le_of_ble_eq_true rfl) (Nat.le_of_ble_eq_true rfl) (Nat.le_of_ble_eq_true rfl) (Nat.le_of_ble_eq_true rfl) (fun h_6 w_6 => ?_)
              refine X_aload_n (pc := 358) 0 dX5_add_358 rfl rfl ?_
              refine X_getfield (pc := 359) dX5_add_359 fg_X5_22_3 (XW.cv w_6) rfl ?_
              refine X_aload_n (pc := 362) 1 dX5_add_362 rfl rfl ?_
              refine X_getfield (pc := 363) dX5_add_363 fg_X5_103_5 (PtK.c hP w_6) rfl ?_
              refine X_aload_n (pc := 366) 0 dX5_add_366 rfl rfl ?_
              refine X_getfield (pc := 367) dX5_add_367 fg_X5_65_3 (XW.cv w_6) rfl ?_
              refine X_aload_n (pc := 370) 1 dX5_add_370 rfl rfl ?_
              refine X_getfield (pc := 371) dX5_add_371 fg_X5_103_5 (PtK.c hP w_6) rfl ?_
              refine X_ivv (pc := 374) _ dX5_add_374 cv_X5_133_4 (MoK.ob (XW.mp w_6) w_6) rfl (xsPr g w_6 (P + 1) (P + 1) 23 (St.p hP.2.2.1) (Or.inl hP.2.2.1) (Or.inl (XW.k w_6 23 (by decide)))) nX6_sub (Nat.le_of_ble_eq_true rfl) (Nat.le_of_ble_eq_true rfl) (Nat.le_of_ble_eq_true rfl) (Nat.le_of_ble_eq_true rfl) (fun h_7 w_7 => ?_)
              refine X_aload_n (pc := 377) 0 dX5_add_377 rfl rfl ?_
              refine X_getfield (pc := 378) dX5_add_378 fg_X5_22_3 (XW.cv w_7) rfl ?_
              refine X_aload_n (pc := 381) 1 dX5_add_381 rfl rfl ?_
              refine X_getfield (pc := 382) dX5_add_382 fg_X5_103_5 (PtK.c hP w_7) rfl ?_
              refine X_aload_n (pc := 385) 0 dX5_add_385 rfl rfl ?_
              refine X_getfield (pc := 386) dX5_add_386 fg_X5_50_3 (XW.cv w_7) rfl ?_
              refine X_aload_n (pc := 389) 1 dX5_add_389 rfl rfl ?_
              refine X_getfield (pc := 390) dX5_add_390 fg_X5_103_5 (PtK.c hP w_7) rfl ?_
              refine X_ivv (pc := 393) _ dX5_add_393 cv_X5_133_4 (MoK.ob (XW.mp w_7) w_7) rfl (xsPr g w_7 (P + 1) (P + 1) 18 (St.p hP.2.2.1) (Or.inl hP.2.2.1) (Or.inl (XW.k w_7 18 (by decide)))) nX6_sub (Nat.le_of_ble_eq_true rfl) (Nat.le_of_ble_eq_true rfl) (Nat.le_of_ble_eq_true rfl) (Nat.le_of_ble_eq_true rfl) (fun h_8 w_8 => ?_)
              refine X_aload_n (pc := 396) 0 dX5_add_396 rfl rfl ?_
              refine X_getfield (pc := 397) dX5_add_397 fg_X5_22_3 (XW.cv w_8) rfl ?_
              refine X_aload_n (pc := 400) 1 dX5_add_400 rfl rfl ?_
              refine X_getfield (pc := 401) dX5_add_401 fg_X5_103_5 (PtK.c hP w_8) rfl ?_
              refine X_aload_n (pc := 404) 0 dX5_add_404 rfl rfl ?_
              refine X_getfield (pc := 405) dX5_add_405 fg_X5_50_3 (XW.cv w_8) rfl ?_
              refine X_aload_n (pc := 408) 1 dX5_add_408 rfl rfl ?_
              refine X_getfield (pc := 409) dX5_add_409 fg_X5_103_5 (PtK.c hP w_8) rfl ?_
              refine X_ivv (pc := 412) _ dX5_add_412 cv_X5_133_4 (MoK.ob (XW.mp w_8) w_8) rfl (xsPr g w_8 (P + 1) (P + 1) 18 (St.p hP.2.2.1) (Or.inl hP.2.2.1) (Or.inl (XW.k w_8 18 (by decide)))) nX6_sub (Nat.le_of_ble_eq_true rfl) (Nat.le_of_ble_eq_true rfl) (Nat.le_of_ble_eq_true rfl) (Nat.le_of_ble_eq_true rfl) (fun h_9 w_9 => ?_)
              refine X_aload_n (pc := 415) 0 dX5_add_415 rfl rfl ?_
              refine X_getfield (pc := 416) dX5_add_416 fg_X5_22_3 (XW.cv w_9) rfl ?_
              refine X_aload_n (pc := 419) 0 dX5_add_419 rfl rfl ?_
              refine X_getfield (pc := 420) dX5_add_420 fg_X5_50_3 (XW.cv w_9) rfl ?_
              refine X_aload_n (pc := 423) 1 dX5_add_423 rfl rfl ?_
              refine X_getfield (pc := 424) dX5_add_424 fg_X5_103_5 (PtK.c hP w_9) rfl ?_
              refine X_aload_n (pc := 427) 0 dX5_add_427 rfl rfl ?_
              refine X_getfield (pc := 428) dX5_add_428 fg_X5_50_3 (XW.cv w_9) rfl ?_
              refine X_ivv (pc := 431) _ dX5_add_431 cv_X5_133_4 (MoK.ob (XW.mp w_9) w_9) rfl (xsPr g w_9 18 18 (P + 1) (St.p (XW.k w_9 18 (by decide))) (Or.inl (XW.k w_9 18 (by decide))) (Or.inl hP.2.2.1)) nX6_sub (Nat.le_of_ble_eq_true rfl) (Nat.le_of_ble_eq_true rfl) (Nat.le_of_ble_eq_true rfl) (Nat.le_of_ble_eq_true rfl) (fun h_10 w_10 => ?_)
              refine X_aload_n (pc := 434) 0 dX5_add_434 rfl rfl ?_
              refine X_getfield (pc := 435) dX5_add_435 fg_X5_22_3 (XW.cv w_10) rfl ?_
              refine X_aload_n (pc := 438) 0 dX5_add_438 rfl rfl ?_
              refine X_getfield (pc := 439) dX5_add_439 fg_X5_59_3 (XW.cv w_10) rfl ?_
              refine X_aload_n (pc := 442) 0 dX5_add_442 rfl rfl ?_
              refine X_getfield (pc := 443) dX5_add_443 fg_X5_50_3 (XW.cv w_10) rfl ?_
              refine X_aload_n (pc := 446) 1 dX5_add_446 rfl rfl ?_
              refine X_getfield (pc := 447) dX5_add_447 fg_X5_108_5 (PtK.c hP w_10) rfl ?_
              refine X_ivv (pc := 450) _ dX5_add_450 cv_X5_140_4 (MoK.ob (XW.mp w_10) w_10) rfl (xmPr g w_10 (P + 2) 21 18 (St.p hP.2.2.2.1) (Or.inl (XW.k w_10 21 (by decide))) (Or.inl (XW.k w_10 18 (by decide)))) nX6_mul (Nat.le_of_ble_eq_true rfl) (Nat.le_of_ble_eq_true rfl) (Nat.le_of_ble_eq_true rfl) (Nat.le_of_ble_eq_true rfl) (fun h_11 w_11 => ?_)
              refine X_aload_n (pc := 453) 0 dX5_add_453 rfl rfl ?_
              refine X_getfield (pc := 454) dX5_add_454 fg_X5_22_3 (XW.cv w_11) rfl ?_
              refine X_aload_n (pc := 457) 0 dX5_add_457 rfl rfl ?_
              refine X_getfield (pc := 458) dX5_add_458 fg_X5_56_3 (XW.cv w_11) rfl ?_
              refine X_aload_n (pc := 461) 0 dX5_add_461 rfl rfl ?_
              refine X_getfield (pc := 462) dX5_add_462 fg_X5_65_3 (XW.cv w_11) rfl ?_
              refine X_aload_n (pc := 465) 0 dX5_add_465 rfl rfl ?_
              refine X_getfield (pc := 466) dX5_add_466 fg_X5_56_3 (XW.cv w_11) rfl ?_
              refine X_ivv (pc := 469) _ dX5_add_469 cv_X5_140_4 (MoK.ob (XW.mp w_11) w_11) rfl (xmPr g w_11 20 20 23 (St.p (XW.k w_11 20 (by decide))) (Or.inl (XW.k w_11 20 (by decide))) (Or.inl (XW.k w_11 23 (by decide)))) nX6_mul (Nat.le_of_ble_eq_true rfl) (Nat.le_of_ble_eq_true rfl) (Nat.le_of_ble_eq_true rfl) (Nat.le_of_ble_eq_true rfl) (fun h_12 w_12 => ?_)
              refine X_aload_n (pc := 472) 0 dX5_add_472 rfl rfl ?_
              refine X_getfield (pc := 473) dX5_add_473 fg_X5_22_3 (XW.cv w_12) rfl ?_
              refine X_aload_n (pc := 476) 1 dX5_add_476 rfl rfl ?_
              refine X_getfield (pc := 477) dX5_add_477 fg_X5_108_5 (PtK.c hP w_12) rfl ?_
              refine X_aload_n (pc := 480) 0 dX5_add_480 rfl rfl ?_
              refine X_getfield (pc := 481) dX5_add_481 fg_X5_56_3 (XW.cv w_12) rfl ?_
              refine X_aload_n (pc := 484) 1 dX5_add_484 rfl rfl ?_
              refine X_getfield (pc := 485) dX5_add_485 fg_X5_108_5 (PtK.c hP w_12) rfl ?_
              refine X_ivv (pc := 488) _ dX5_add_488 cv_X5_133_4 (MoK.ob (XW.mp w_12) w_12) rfl (xsPr g w_12 (P + 2) (P + 2) 20 (St.p hP.2.2.2.1) (Or.inl hP.2.2.2.1) (Or.inl (XW.k w_12 20 (by decide)))) nX6_sub (Nat.le_of_ble_eq_true rfl) (Nat.le_of_ble_eq_true rfl) (Nat.le_of_ble_eq_true rfl) (Nat.le_of_ble_eq_true rfl) (fun h_13 w_13 => ?_)
              refine X_return (pc := 491) dX5_add_491 rfl (Nat.le_of_ble_eq_true rfl) (Nat.le_of_ble_eq_true rfl) ?_
              refine ⟨rfl, aeR P Q RA, fun j hj => ?_, ?_, w_13⟩
              · have := ecS_ne hj
                rw [aeR_o (by omega) (by omega) (by omega) (by omega) (by omega) (by omega) (by omega), frA j hj]
              · obtain ⟨⟨e1, -⟩, ⟨e2, -⟩, ⟨e3, -⟩⟩ := aeR_v (R := RA) hP60 hQ60 hPQ v18 v19 v20 v21 vp1 vp2 vp3 vq3
                unfold PtV
                rw [e1, e2, e3]
                refine Jc_add hv hvq z1 z2 ?_ _ _ _ _ _ rfl rfl rfl rfl rfl
                rw [← v19.1]
                exact fun z => hE ((vm_0 v19.2).mp z)
            · exact absurd rfl c_218
        · exact absurd rfl c_12
    · exact absurd rfl c_4
def tmS (P j : Nat) : Bool := ecS P j || (decide (65 ≤ j) && decide (j ≤ 67))
theorem tmS_ne {P j : Nat} (h : tmS P j = false) : ecS P j = false ∧ ¬ (65 ≤ j ∧ j ≤ 67) := by
  unfold tmS at h
  simp only [Bool.or_eq_false_iff, Bool.and_eq_false_iff, decide_eq_false_iff_not] at h
  exact ⟨h.1, by omega⟩
theorem tmS_f {P j : Nat} (h : ecS P j = false) (h2 : ¬ (65 ≤ j ∧ j ≤ 67)) : tmS P j = false := by
  unfold tmS
  simp only [Bool.or_eq_false_iff, Bool.and_eq_false_iff, decide_eq_false_iff_not]
  exact ⟨h, by omega⟩
set_option maxHeartbeats 4000000 in
theorem times_ok (g : GX) (w : XW kd A X R S O F h) {P Q ak kv : Nat} (hP : PtK kd A O P) (hQ : PtK kd A O Q) (hP60 : 68 ≤ P) (hQ60 : 60 ≤ Q) (hQ64 : Q = 60 ∨ 68 ≤ Q) (hPQ : P + 4 ≤ Q ∨ Q + 4 ≤ P) (hb : XB R) (ok : OpE kd A X R S O F (tmS P) ak 12 kv) {Qt : PP} (onq : OnP Qt) (hvq : PtV R Q Qt) :
    MT g MX5_times ({ frames := 6, cells := 0, slots := 0, locals := 138 } : Room) [.ref (A 11), .ref ak, .ref (A Q), .ref (A P)] h (RV (PtQ kd A X R S O F (tmS P) P (mP kv Qt))) := by
  refine MT.of (by decide) (Nat.le_of_ble_eq_true rfl) ?_
  have hkv : kv < 2 ^ 384 := by
    obtain ⟨f, -, e, -⟩ := ok.now w
    rw [← e]
    exact V_lt 12 f
  have loop : ∀ k, k ≤ 384 → ∀ (R2 : Nat → Nat) (h2 : AH), XW kd A X R2 S O F h2 → (∀ j, tmS P j = false → R2 j = R j) → PtV R2 64 Qt → PtV R2 P (mB kv Qt (384 - k)) →
      XX g MX5_times ({ frames := 6, cells := 0, slots := 0, locals := 138 } : Room) (RV (PtQ kd A X R S O F (tmS P) P (mP kv Qt))) 0 0 17 [(4, .int (nI k - 1)), (0, .ref (A 11)), (1, .ref ak), (2, .ref (A Q)), (3, .ref (A P))] [] h2 := by
    intro k
    induction k with
    | zero =>
      intro _ R2 h2 w2 fr v64 vP
      refine X_iload (pc := 17) 0 dX5_times_17 rfl ?_
      refine X_if_lt (pc := 19) 60 dX5_times_19 (by decide) (fun c_19 => ?_) (fun c_19 => ?_)
      · refine X_return (pc := 60) dX5_times_60 rfl (Nat.le_of_ble_eq_true rfl) (Nat.le_of_ble_eq_true rfl) ?_
        refine ⟨rfl, R2, fr, ?_, w2⟩
        rw [← mB_all onq hkv]
        exact vP
      · exact absurd (show nI 0 - 1 < 0 by decide) c_19
    | succ k ih =>
      intro hk R2 h2 w2 fr v64 vP
      rw [nI_pred]
      have hi : 384 - k = (384 - (k + 1)) + 1 := by omega
      have hbit : 383 - (384 - (k + 1)) = k := by omega
      have hOn : OnP (mB kv Qt (384 - (k + 1))) := by rw [mB_eq onq hkv _ (by omega)]; exact mP_on onq _
      have hst : mB kv Qt (384 - k) = if kv / 2 ^ k % 2 = 1 then adP (adP (mB kv Qt (384 - (k + 1))) (mB kv Qt (384 - (k + 1)))) Qt else adP (mB kv Qt (384 - (k + 1))) (mB kv Qt (384 - (k + 1))) := by
        rw [hi]
        show (if kv / 2 ^ (383 - (384 - (k + 1))) % 2 = 1 then _ else _) = _
        rw [hbit]
      generalize mB kv Qt (384 - (k + 1)) = Q1 at hOn hst vP
      have xb2 : XB R2 := hb.fr fun j hj => fr j (tmS_f (ecS_f (by omega) (by omega) (by omega) (by omega)) (by omega))
      refine X_iload (pc := 17) 0 dX5_times_17 rfl ?_
      refine X_if_lt (pc := 19) 60 dX5_times_19 (by decide) (fun c_19 => ?_) (fun c_19 => ?_)
      · exact absurd c_19 (nI_pos (by omega))
      · refine X_aload_n (pc := 22) 1 dX5_times_22 rfl rfl ?_
        refine X_aload_n (pc := 23) 4 dX5_times_23 rfl rfl ?_
        refine X_ivv (pc := 24) _ dX5_times_24 cv_X5_151_3 (XW.cv w2) rfl (twice_ok g w2 hP (by omega) xb2 hOn vP) nX5_twice (Nat.le_of_ble_eq_true rfl) (Nat.le_of_ble_eq_true rfl) (Nat.le_of_ble_eq_true rfl) (Nat.le_of_ble_eq_true rfl) (fun h3 q3 => ?_)
        obtain ⟨R3, f3, v3, w3⟩ := q3
        have fr3 : ∀ j, tmS P j = false → R3 j = R j := fun j hj => by rw [f3 j (tmS_ne hj).1, fr j hj]
        have v643 : PtV R3 64 Qt := by
          unfold PtV
          rw [f3 _ (ecS_f (by omega) (by omega) (by omega) (by omega)), f3 _ (ecS_f (by omega) (by omega) (by omega) (by omega)), f3 _ (ecS_f (by omega) (by omega) (by omega) (by omega))]
          exact v64
        have xb3 : XB R3 := hb.fr fun j hj => fr3 j (tmS_f (ecS_f (by omega) (by omega) (by omega) (by omega)) (by omega))
        obtain ⟨fe, he, hVe, -⟩ := ok X R3 h3 w3 (fun _ _ e => e) fr3
        have ck : (nI (k / 32)).toNatClampNeg = k / 32 := nI_clamp (by omega)
        have b1 : vp_in (nI (k / 32)) 12 := vp_in_nI (by omega) (by omega)
        refine X_aload_n (pc := 27) 2 dX5_times_27 rfl rfl ?_
        refine X_iload (pc := 28) 0 dX5_times_28 rfl ?_
        refine X_iconst (pc := 30) (x := 5) dX5_times_30 (by decide) ?_
        refine X_ishr (pc := 31) dX5_times_31 ?_
        rw [i_shr5 (by omega)]
        refine X_iaload (pc := 32) dX5_times_32 he b1 ?_
        refine X_iload (pc := 33) 0 dX5_times_33 rfl ?_
        refine X_bipush (pc := 35) (x := 31) dX5_times_35 (by decide) ?_
        refine X_iand (pc := 37) dX5_times_37 ?_
        rw [ck, i_and31 (by omega)]
        refine X_ishr (pc := 38) dX5_times_38 ?_
        refine X_iconst (pc := 39) (x := 1) dX5_times_39 (by decide) ?_
        refine X_iand (pc := 40) dX5_times_40 ?_
        rw [abit_at (n := 12) (by omega), hVe]
        refine X_iconst (pc := 41) (x := 1) dX5_times_41 (by decide) ?_
        have h01 : kv / 2 ^ k % 2 = 0 ∨ kv / 2 ^ k % 2 = 1 := by omega
        rcases h01 with hb0 | hb1
        · rw [hb0]
          refine X_icmp_ne (pc := 42) 54 dX5_times_42 (by decide) (fun _ => ?_) (fun c => absurd c (by decide))
          refine X_iinc (pc := 54) (L' := [(4, .int (_ + (-1))), (0, .ref _), (1, .ref _), (2, .ref _), (3, .ref _)]) 0 dX5_times_54 rfl rfl (Nat.le_of_ble_eq_true rfl) rfl ?_
          refine X_goto (pc := 57) 17 dX5_times_57 (by decide) ?_
          rw [m1]
          refine ih (by omega) R3 h3 w3 fr3 v643 ?_
          rw [hst, if_neg (by omega)]
          exact v3
        · rw [hb1]
          refine X_icmp_ne (pc := 42) 54 dX5_times_42 (by decide) (fun c => absurd rfl c) (fun _ => ?_)
          rw [if_pos hb1] at hst
          refine X_aload_n (pc := 45) 1 dX5_times_45 rfl rfl ?_
          refine X_aload_n (pc := 46) 4 dX5_times_46 rfl rfl ?_
          refine X_aload_n (pc := 47) 1 dX5_times_47 rfl rfl ?_
          refine X_getfield (pc := 48) dX5_times_48 fg_X5_75_3 (XW.cv w3) (by first | rfl | assumption) ?_
          refine X_ivv (pc := 51) _ dX5_times_51 cv_X5_157_3 (XW.cv w3) rfl (add_ok g w3 hP (XW.pt64 w3) (by omega) (by decide) (by omega) xb3 (by omega) (ad_on hOn hOn) onq v3 v643) nX5_add (Nat.le_of_ble_eq_true rfl) (Nat.le_of_ble_eq_true rfl) (Nat.le_of_ble_eq_true rfl) (Nat.le_of_ble_eq_true rfl) (fun h4 q4 => ?_)
          obtain ⟨R4, f4, v4, w4⟩ := q4
          refine X_iinc (pc := 54) (L' := [(4, .int (_ + (-1))), (0, .ref _), (1, .ref _), (2, .ref _), (3, .ref _)]) 0 dX5_times_54 rfl rfl (Nat.le_of_ble_eq_true rfl) rfl ?_
          refine X_goto (pc := 57) 17 dX5_times_57 (by decide) ?_
          rw [m1]
          refine ih (by omega) R4 h4 w4 (fun j hj => by rw [f4 j (tmS_ne hj).1, fr3 j hj]) ?_ ?_
          · unfold PtV
            rw [f4 _ (ecS_f (by omega) (by omega) (by omega) (by omega)), f4 _ (ecS_f (by omega) (by omega) (by omega) (by omega)), f4 _ (ecS_f (by omega) (by omega) (by omega) (by omega))]
            exact v643
          · rw [hst]
            exact v4
  refine X_aload_n (pc := 0) 0 dX5_times_0 rfl rfl ?_
  refine X_getfield (pc := 1) dX5_times_1 fg_X5_75_3 (XW.cv w) (by first | rfl | assumption) ?_
  refine X_aload_n (pc := 4) 2 dX5_times_4 rfl rfl ?_
  refine X_ivv (pc := 5) _ dX5_times_5 cv_X5_143_5 (PtK.c (XW.pt64 w) w) rfl (be_ok g w (XW.pt64 w) hQ) nX7_be (Nat.le_of_ble_eq_true rfl) (Nat.le_of_ble_eq_true rfl) (Nat.le_of_ble_eq_true rfl) (Nat.le_of_ble_eq_true rfl) (fun h1 w1 => ?_)
  refine X_aload_n (pc := 8) 3 dX5_times_8 rfl rfl ?_
  refine X_ivv (pc := 9) _ dX5_times_9 cv_X5_154_5 (hP.c w1) rfl (vanish_ok g w1 hP) nX7_vanish (Nat.le_of_ble_eq_true rfl) (Nat.le_of_ble_eq_true rfl) (Nat.le_of_ble_eq_true rfl) (Nat.le_of_ble_eq_true rfl) (fun h2 w2 => ?_)
  refine X_sipush (pc := 12) (x := 383) dX5_times_12 (by decide) ?_
  refine X_istore (pc := 15) (L' := [(4, .int _), (0, .ref _), (1, .ref _), (2, .ref _), (3, .ref _)]) dX5_times_15 (Nat.le_of_ble_eq_true rfl) rfl ?_
  refine loop 384 (Nat.le_refl _) _ h2 w2 (fun j hj => ?_) ?_ ?_
  · have h1 := tmS_ne hj
    have h2 := ecS_ne h1.1
    exact (up_ne (by omega)).trans (((up_ne (by omega)).trans (up_ne (by omega))).trans (up_ne (by omega)))
  · have e1 : up (beR 64 Q R) (P + 3) 0 (64 + 1) = R (Q + 1) := by
      unfold beR rCp
      rw [up_ne (by omega), up_ne (by omega), up_ne (by omega), up_same]
    have e2 : up (beR 64 Q R) (P + 3) 0 (64 + 2) = R (Q + 2) := by
      unfold beR rCp
      rw [up_ne (by omega), up_ne (by omega), up_same, up_ne (by omega)]
    have e3 : up (beR 64 Q R) (P + 3) 0 (64 + 3) = R (Q + 3) := by
      unfold beR rCp
      rw [up_ne (by omega), up_same, up_ne (by omega), up_ne (by omega)]
    unfold PtV
    rw [e1, e2, e3]
    exact hvq
  · rw [Nat.sub_self]
    show Jc _ _ _ none
    rw [up_same]
    exact (vm_0 pP_pos).mpr rfl
end XE
