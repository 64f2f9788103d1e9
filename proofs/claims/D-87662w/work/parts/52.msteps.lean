set_option maxRecDepth 100000
def dblR1 (R : Nat → Nat) : Nat → Nat := r8 19 (rMul 19 20 21 (rMul 20 21 21 (rAdd 17 17 17 (rMul 17 23 21 (rSub 18 22 20 (r8 20 (rMul 20 20 20 (rMul 20 18 21 (rMul 22 20 22 (rSub 22 22 23 (rSub 23 23 22 (rSub 23 23 22 (rMul 23 20 20 (rAdd 22 22 22 (rAdd 22 22 22 (rMul 22 22 21 (rMul 22 17 18 (rMul 21 18 19 (rAdd 20 20 21 (rAdd 20 21 21 (rSub 21 21 20 (rMul 21 17 17 (rMul 20 19 19 R)))))))))))))))))))))))
theorem dblR_fr {R : Nat → Nat} {j : Nat} (h17 : j ≠ 17) (h18 : j ≠ 18) (h19 : j ≠ 19) (h20 : j ≠ 20) (h21 : j ≠ 21) (h22 : j ≠ 22) (h23 : j ≠ 23) : dblR R j = R j := by
  unfold dblR r8
  exact (up_ne h19).trans ((up_ne h19).trans ((up_ne h19).trans ((up_ne h19).trans ((up_ne h20).trans ((up_ne h17).trans ((up_ne h17).trans ((up_ne h18).trans ((up_ne h20).trans ((up_ne h20).trans ((up_ne h20).trans ((up_ne h20).trans ((up_ne h20).trans ((up_ne h22).trans ((up_ne h22).trans ((up_ne h23).trans ((up_ne h23).trans ((up_ne h23).trans ((up_ne h22).trans ((up_ne h22).trans ((up_ne h22).trans ((up_ne h22).trans ((up_ne h21).trans ((up_ne h20).trans ((up_ne h20).trans ((up_ne h21).trans ((up_ne h21).trans (up_ne h20)))))))))))))))))))))))))))
theorem if01_0 {c : Prop} [Decidable c] (h : (if c then (1 : Int32) else 0) = 0) : ¬ c := fun z => by
  rw [if_pos z] at h
  exact absurd h (by decide)
theorem if01_1 {c : Prop} [Decidable c] (h : ¬ (if c then (1 : Int32) else 0) = 0) : c := by
  apply Classical.byContradiction
  intro z
  rw [if_neg z] at h
  exact h rfl
section MS
variable {A : Nat → Nat} {X : AH} {R : Nat → Nat} {I : Nat → Nat → Int32} {S : Nat → List Int32} {F : Nat → Int32} {h : AH}
def stA (R : Nat → Nat) : Nat → Nat := rSub 21 21 17 (rMul 21 201 19 (rSub 20 20 18 (rMul 20 301 19 R)))
theorem stA_fr {R : Nat → Nat} {j : Nat} (h20 : j ≠ 20) (h21 : j ≠ 21) : stA R j = R j := by
  unfold stA
  exact (up_ne h21).trans ((up_ne h21).trans ((up_ne h20).trans (up_ne h20)))
theorem stA_v {R : Nat → Nat} {x17 x18 x19 x201 x301 : Fp} (t0_17 : vl R 17 x17) (t0_18 : vl R 18 x18) (t0_19 : vl R 19 x19) (t0_201 : vl R 201 x201) (t0_301 : vl R 301 x301) : vl (stA R) 17 x17 ∧ vl (stA R) 18 x18 ∧ vl (stA R) 19 x19 ∧ vl (stA R) 20 ((x301 * x19) - x18) ∧ vl (stA R) 21 ((x201 * x19) - x17) ∧ vl (stA R) 201 x201 ∧ vl (stA R) 301 x301 := by
  have t1_17 := vl_Mo (k := 20) (a := 301) (b := 19) t0_17 (by decide)
  have t1_18 := vl_Mo (k := 20) (a := 301) (b := 19) t0_18 (by decide)
  have t1_19 := vl_Mo (k := 20) (a := 301) (b := 19) t0_19 (by decide)
  have t1_201 := vl_Mo (k := 20) (a := 301) (b := 19) t0_201 (by decide)
  have t1_301 := vl_Mo (k := 20) (a := 301) (b := 19) t0_301 (by decide)
  have t1_20 := vl_M (k := 20) t0_301 t0_19
  have t2_17 := vl_So (k := 20) (a := 20) (b := 18) t1_17 (by decide)
  have t2_18 := vl_So (k := 20) (a := 20) (b := 18) t1_18 (by decide)
  have t2_19 := vl_So (k := 20) (a := 20) (b := 18) t1_19 (by decide)
  have t2_201 := vl_So (k := 20) (a := 20) (b := 18) t1_201 (by decide)
  have t2_301 := vl_So (k := 20) (a := 20) (b := 18) t1_301 (by decide)
  have t2_20 := vl_S (k := 20) t1_20 t1_18
  have t3_17 := vl_Mo (k := 21) (a := 201) (b := 19) t2_17 (by decide)
  have t3_18 := vl_Mo (k := 21) (a := 201) (b := 19) t2_18 (by decide)
  have t3_19 := vl_Mo (k := 21) (a := 201) (b := 19) t2_19 (by decide)
  have t3_201 := vl_Mo (k := 21) (a := 201) (b := 19) t2_201 (by decide)
  have t3_301 := vl_Mo (k := 21) (a := 201) (b := 19) t2_301 (by decide)
  have t3_20 := vl_Mo (k := 21) (a := 201) (b := 19) t2_20 (by decide)
  have t3_21 := vl_M (k := 21) t2_201 t2_19
  have t4_17 := vl_So (k := 21) (a := 21) (b := 17) t3_17 (by decide)
  have t4_18 := vl_So (k := 21) (a := 21) (b := 17) t3_18 (by decide)
  have t4_19 := vl_So (k := 21) (a := 21) (b := 17) t3_19 (by decide)
  have t4_201 := vl_So (k := 21) (a := 21) (b := 17) t3_201 (by decide)
  have t4_301 := vl_So (k := 21) (a := 21) (b := 17) t3_301 (by decide)
  have t4_20 := vl_So (k := 21) (a := 21) (b := 17) t3_20 (by decide)
  have t4_21 := vl_S (k := 21) t3_21 t3_17
  exact ⟨t4_17, t4_18, t4_19, t4_20, t4_21, t4_201, t4_301⟩
def stB (R : Nat → Nat) : Nat → Nat := rMul 19 22 19 (rMul 17 21 23 (rSub 18 20 18 (rMul 18 22 18 (rMul 20 20 17 (rSub 17 17 23 (rSub 23 23 17 (rSub 23 23 17 (rSub 23 23 22 (rMul 23 23 19 (rMul 23 20 20 (rMul 22 22 21 (rMul 17 22 17 (rMul 22 21 21 R)))))))))))))
theorem stB_fr {R : Nat → Nat} {j : Nat} (h17 : j ≠ 17) (h18 : j ≠ 18) (h19 : j ≠ 19) (h20 : j ≠ 20) (h22 : j ≠ 22) (h23 : j ≠ 23) : stB R j = R j := by
  unfold stB
  exact (up_ne h19).trans ((up_ne h17).trans ((up_ne h18).trans ((up_ne h18).trans ((up_ne h20).trans ((up_ne h17).trans ((up_ne h23).trans ((up_ne h23).trans ((up_ne h23).trans ((up_ne h23).trans ((up_ne h23).trans ((up_ne h22).trans ((up_ne h17).trans (up_ne h22)))))))))))))
theorem stB_v {R : Nat → Nat} {x17 x18 x19 x20 x21 : Fp} (t0_17 : vl R 17 x17) (t0_18 : vl R 18 x18) (t0_19 : vl R 19 x19) (t0_20 : vl R 20 x20) (t0_21 : vl R 21 x21) : vl (stB R) 17 (x21 * (((((x20 * x20) * x19) - ((x21 * x21) * x21)) - ((x21 * x21) * x17)) - ((x21 * x21) * x17))) ∧ vl (stB R) 18 ((x20 * (((x21 * x21) * x17) - (((((x20 * x20) * x19) - ((x21 * x21) * x21)) - ((x21 * x21) * x17)) - ((x21 * x21) * x17)))) - (((x21 * x21) * x21) * x18)) ∧ vl (stB R) 19 (((x21 * x21) * x21) * x19) := by
  have t1_17 := vl_Mo (k := 22) (a := 21) (b := 21) t0_17 (by decide)
  have t1_18 := vl_Mo (k := 22) (a := 21) (b := 21) t0_18 (by decide)
  have t1_19 := vl_Mo (k := 22) (a := 21) (b := 21) t0_19 (by decide)
  have t1_20 := vl_Mo (k := 22) (a := 21) (b := 21) t0_20 (by decide)
  have t1_21 := vl_Mo (k := 22) (a := 21) (b := 21) t0_21 (by decide)
  have t1_22 := vl_M (k := 22) t0_21 t0_21
  have t2_18 := vl_Mo (k := 17) (a := 22) (b := 17) t1_18 (by decide)
  have t2_19 := vl_Mo (k := 17) (a := 22) (b := 17) t1_19 (by decide)
  have t2_20 := vl_Mo (k := 17) (a := 22) (b := 17) t1_20 (by decide)
  have t2_21 := vl_Mo (k := 17) (a := 22) (b := 17) t1_21 (by decide)
  have t2_22 := vl_Mo (k := 17) (a := 22) (b := 17) t1_22 (by decide)
  have t2_17 := vl_M (k := 17) t1_22 t1_17
  have t3_17 := vl_Mo (k := 22) (a := 22) (b := 21) t2_17 (by decide)
  have t3_18 := vl_Mo (k := 22) (a := 22) (b := 21) t2_18 (by decide)
  have t3_19 := vl_Mo (k := 22) (a := 22) (b := 21) t2_19 (by decide)
  have t3_20 := vl_Mo (k := 22) (a := 22) (b := 21) t2_20 (by decide)
  have t3_21 := vl_Mo (k := 22) (a := 22) (b := 21) t2_21 (by decide)
  have t3_22 := vl_M (k := 22) t2_22 t2_21
  have t4_17 := vl_Mo (k := 23) (a := 20) (b := 20) t3_17 (by decide)
  have t4_18 := vl_Mo (k := 23) (a := 20) (b := 20) t3_18 (by decide)
  have t4_19 := vl_Mo (k := 23) (a := 20) (b := 20) t3_19 (by decide)
  have t4_20 := vl_Mo (k := 23) (a := 20) (b := 20) t3_20 (by decide)
  have t4_21 := vl_Mo (k := 23) (a := 20) (b := 20) t3_21 (by decide)
  have t4_22 := vl_Mo (k := 23) (a := 20) (b := 20) t3_22 (by decide)
  have t4_23 := vl_M (k := 23) t3_20 t3_20
  have t5_17 := vl_Mo (k := 23) (a := 23) (b := 19) t4_17 (by decide)
  have t5_18 := vl_Mo (k := 23) (a := 23) (b := 19) t4_18 (by decide)
  have t5_19 := vl_Mo (k := 23) (a := 23) (b := 19) t4_19 (by decide)
  have t5_20 := vl_Mo (k := 23) (a := 23) (b := 19) t4_20 (by decide)
  have t5_21 := vl_Mo (k := 23) (a := 23) (b := 19) t4_21 (by decide)
  have t5_22 := vl_Mo (k := 23) (a := 23) (b := 19) t4_22 (by decide)
  have t5_23 := vl_M (k := 23) t4_23 t4_19
  have t6_17 := vl_So (k := 23) (a := 23) (b := 22) t5_17 (by decide)
  have t6_18 := vl_So (k := 23) (a := 23) (b := 22) t5_18 (by decide)
  have t6_19 := vl_So (k := 23) (a := 23) (b := 22) t5_19 (by decide)
  have t6_20 := vl_So (k := 23) (a := 23) (b := 22) t5_20 (by decide)
  have t6_21 := vl_So (k := 23) (a := 23) (b := 22) t5_21 (by decide)
  have t6_22 := vl_So (k := 23) (a := 23) (b := 22) t5_22 (by decide)
  have t6_23 := vl_S (k := 23) t5_23 t5_22
  have t7_17 := vl_So (k := 23) (a := 23) (b := 17) t6_17 (by decide)
  have t7_18 := vl_So (k := 23) (a := 23) (b := 17) t6_18 (by decide)
  have t7_19 := vl_So (k := 23) (a := 23) (b := 17) t6_19 (by decide)
  have t7_20 := vl_So (k := 23) (a := 23) (b := 17) t6_20 (by decide)
  have t7_21 := vl_So (k := 23) (a := 23) (b := 17) t6_21 (by decide)
  have t7_22 := vl_So (k := 23) (a := 23) (b := 17) t6_22 (by decide)
  have t7_23 := vl_S (k := 23) t6_23 t6_17
  have t8_17 := vl_So (k := 23) (a := 23) (b := 17) t7_17 (by decide)
  have t8_18 := vl_So (k := 23) (a := 23) (b := 17) t7_18 (by decide)
  have t8_19 := vl_So (k := 23) (a := 23) (b := 17) t7_19 (by decide)
  have t8_20 := vl_So (k := 23) (a := 23) (b := 17) t7_20 (by decide)
  have t8_21 := vl_So (k := 23) (a := 23) (b := 17) t7_21 (by decide)
  have t8_22 := vl_So (k := 23) (a := 23) (b := 17) t7_22 (by decide)
  have t8_23 := vl_S (k := 23) t7_23 t7_17
  have t9_18 := vl_So (k := 17) (a := 17) (b := 23) t8_18 (by decide)
  have t9_19 := vl_So (k := 17) (a := 17) (b := 23) t8_19 (by decide)
  have t9_20 := vl_So (k := 17) (a := 17) (b := 23) t8_20 (by decide)
  have t9_21 := vl_So (k := 17) (a := 17) (b := 23) t8_21 (by decide)
  have t9_22 := vl_So (k := 17) (a := 17) (b := 23) t8_22 (by decide)
  have t9_23 := vl_So (k := 17) (a := 17) (b := 23) t8_23 (by decide)
  have t9_17 := vl_S (k := 17) t8_17 t8_23
  have t10_17 := vl_Mo (k := 20) (a := 20) (b := 17) t9_17 (by decide)
  have t10_18 := vl_Mo (k := 20) (a := 20) (b := 17) t9_18 (by decide)
  have t10_19 := vl_Mo (k := 20) (a := 20) (b := 17) t9_19 (by decide)
  have t10_21 := vl_Mo (k := 20) (a := 20) (b := 17) t9_21 (by decide)
  have t10_22 := vl_Mo (k := 20) (a := 20) (b := 17) t9_22 (by decide)
  have t10_23 := vl_Mo (k := 20) (a := 20) (b := 17) t9_23 (by decide)
  have t10_20 := vl_M (k := 20) t9_20 t9_17
  have t11_17 := vl_Mo (k := 18) (a := 22) (b := 18) t10_17 (by decide)
  have t11_19 := vl_Mo (k := 18) (a := 22) (b := 18) t10_19 (by decide)
  have t11_20 := vl_Mo (k := 18) (a := 22) (b := 18) t10_20 (by decide)
  have t11_21 := vl_Mo (k := 18) (a := 22) (b := 18) t10_21 (by decide)
  have t11_22 := vl_Mo (k := 18) (a := 22) (b := 18) t10_22 (by decide)
  have t11_23 := vl_Mo (k := 18) (a := 22) (b := 18) t10_23 (by decide)
  have t11_18 := vl_M (k := 18) t10_22 t10_18
  have t12_17 := vl_So (k := 18) (a := 20) (b := 18) t11_17 (by decide)
  have t12_19 := vl_So (k := 18) (a := 20) (b := 18) t11_19 (by decide)
  have t12_20 := vl_So (k := 18) (a := 20) (b := 18) t11_20 (by decide)
  have t12_21 := vl_So (k := 18) (a := 20) (b := 18) t11_21 (by decide)
  have t12_22 := vl_So (k := 18) (a := 20) (b := 18) t11_22 (by decide)
  have t12_23 := vl_So (k := 18) (a := 20) (b := 18) t11_23 (by decide)
  have t12_18 := vl_S (k := 18) t11_20 t11_18
  have t13_18 := vl_Mo (k := 17) (a := 21) (b := 23) t12_18 (by decide)
  have t13_19 := vl_Mo (k := 17) (a := 21) (b := 23) t12_19 (by decide)
  have t13_20 := vl_Mo (k := 17) (a := 21) (b := 23) t12_20 (by decide)
  have t13_21 := vl_Mo (k := 17) (a := 21) (b := 23) t12_21 (by decide)
  have t13_22 := vl_Mo (k := 17) (a := 21) (b := 23) t12_22 (by decide)
  have t13_23 := vl_Mo (k := 17) (a := 21) (b := 23) t12_23 (by decide)
  have t13_17 := vl_M (k := 17) t12_21 t12_23
  have t14_17 := vl_Mo (k := 19) (a := 22) (b := 19) t13_17 (by decide)
  have t14_18 := vl_Mo (k := 19) (a := 22) (b := 19) t13_18 (by decide)
  have t14_20 := vl_Mo (k := 19) (a := 22) (b := 19) t13_20 (by decide)
  have t14_21 := vl_Mo (k := 19) (a := 22) (b := 19) t13_21 (by decide)
  have t14_22 := vl_Mo (k := 19) (a := 22) (b := 19) t13_22 (by decide)
  have t14_23 := vl_Mo (k := 19) (a := 22) (b := 19) t13_23 (by decide)
  have t14_19 := vl_M (k := 19) t13_22 t13_19
  exact ⟨t14_17, t14_18, t14_19⟩
theorem stB_17 {F : Type} [Lean.Grind.CommRing F] (x17 x19 x20 x21 : F) : (x21 * (((((x20 * x20) * x19) - ((x21 * x21) * x21)) - ((x21 * x21) * x17)) - ((x21 * x21) * x17))) = x21 * (x20 * x20 * x19 - x21 * x21 * x21 - x21 * x21 * x17 - x21 * x21 * x17) := by grind
theorem stB_18 {F : Type} [Lean.Grind.CommRing F] (x17 x18 x19 x20 x21 : F) : ((x20 * (((x21 * x21) * x17) - (((((x20 * x20) * x19) - ((x21 * x21) * x21)) - ((x21 * x21) * x17)) - ((x21 * x21) * x17)))) - (((x21 * x21) * x21) * x18)) = x20 * (x21 * x21 * x17 - (x20 * x20 * x19 - x21 * x21 * x21 - x21 * x21 * x17 - x21 * x21 * x17)) - x21 * x21 * x21 * x18 := by grind
theorem stB_19 {F : Type} [Lean.Grind.CommRing F] (x19 x21 : F) : (((x21 * x21) * x21) * x19) = x21 * x21 * x21 * x19 := by grind
noncomputable def stR (R : Nat → Nat) : Nat → Nat := if stA R 21 = 0 then (if stA R 20 = 0 then dblR (stA R) else stA R) else stB (stA R)
def stN (R : Nat → Nat) : Prop := stA R 21 = 0 ∧ stA R 20 ≠ 0
set_option maxHeartbeats 4000000 in
theorem steps_ok (g : GX) (w : MW A X R I S F h) : MT g MX10_steps ({ frames := 5, cells := 0, slots := 0, locals := 132 } : Room) [.ref (A 96)] h (RI fun r h' => (stN R → r = 0) ∧ (¬ stN R → r = 1) ∧ MW A X (stR R) I S F h') := by
  refine MT.of (by decide) (Nat.le_of_ble_eq_true rfl) ?_
  refine X_aload_n (pc := 0) 0 dX10_steps_0 rfl rfl ?_
  refine X_aload_n (pc := 1) 0 dX10_steps_1 rfl rfl ?_
  refine X_getfield (pc := 2) dX10_steps_2 fg_X10_61_11 (MW.ob w) mf_9 ?_
  refine X_aload_n (pc := 5) 0 dX10_steps_5 rfl rfl ?_
  refine X_getfield (pc := 6) dX10_steps_6 fg_X10_192_11 (MW.ob w) mf_12 ?_
  refine X_getfield (pc := 9) dX10_steps_9 fg_X10_149_13 (MW.sp w 1 (by decide)) rfl ?_
  refine X_aload_n (pc := 12) 0 dX10_steps_12 rfl rfl ?_
  refine X_getfield (pc := 13) dX10_steps_13 fg_X10_168_11 (MW.ob w) mf_19 ?_
  refine X_aload_n (pc := 16) 0 dX10_steps_16 rfl rfl ?_
  refine X_getfield (pc := 17) dX10_steps_17 fg_X10_171_11 (MW.ob w) mf_20 ?_
  refine X_ivv (pc := 20) _ dX10_steps_20 cv_X10_102_11 (MW.ob w) rfl (mtPr g w 20 301 19 rfl rfl rfl) nX10_times (Nat.le_of_ble_eq_true rfl) (Nat.le_of_ble_eq_true rfl) (Nat.le_of_ble_eq_true rfl) (Nat.le_of_ble_eq_true rfl) (fun h_1 w_1 => ?_)
  refine X_aload_n (pc := 23) 0 dX10_steps_23 rfl rfl ?_
  refine X_getfield (pc := 24) dX10_steps_24 fg_X10_61_11 (MW.ob w_1) mf_9 ?_
  refine X_aload_n (pc := 27) 0 dX10_steps_27 rfl rfl ?_
  refine X_getfield (pc := 28) dX10_steps_28 fg_X10_171_11 (MW.ob w_1) mf_20 ?_
  refine X_aload_n (pc := 31) 0 dX10_steps_31 rfl rfl ?_
  refine X_getfield (pc := 32) dX10_steps_32 fg_X10_180_11 (MW.ob w_1) mf_18 ?_
  refine X_aload_n (pc := 35) 0 dX10_steps_35 rfl rfl ?_
  refine X_getfield (pc := 36) dX10_steps_36 fg_X10_171_11 (MW.ob w_1) mf_20 ?_
  refine X_isv (pc := 39) _ dX10_steps_39 cs_X10_130 rfl (msPr g w_1 20 20 18 rfl rfl rfl) nX10_sub (Nat.le_of_ble_eq_true rfl) (Nat.le_of_ble_eq_true rfl) (Nat.le_of_ble_eq_true rfl) (Nat.le_of_ble_eq_true rfl) (fun h_2 w_2 => ?_)
  refine X_aload_n (pc := 42) 0 dX10_steps_42 rfl rfl ?_
  refine X_aload_n (pc := 43) 0 dX10_steps_43 rfl rfl ?_
  refine X_getfield (pc := 44) dX10_steps_44 fg_X10_61_11 (MW.ob w_2) mf_9 ?_
  refine X_aload_n (pc := 47) 0 dX10_steps_47 rfl rfl ?_
  refine X_getfield (pc := 48) dX10_steps_48 fg_X10_192_11 (MW.ob w_2) mf_12 ?_
  refine X_getfield (pc := 51) dX10_steps_51 fg_X10_146_13 (MW.sp w_2 1 (by decide)) rfl ?_
  refine X_aload_n (pc := 54) 0 dX10_steps_54 rfl rfl ?_
  refine X_getfield (pc := 55) dX10_steps_55 fg_X10_168_11 (MW.ob w_2) mf_19 ?_
  refine X_aload_n (pc := 58) 0 dX10_steps_58 rfl rfl ?_
  refine X_getfield (pc := 59) dX10_steps_59 fg_X10_177_11 (MW.ob w_2) mf_21 ?_
  refine X_ivv (pc := 62) _ dX10_steps_62 cv_X10_102_11 (MW.ob w_2) rfl (mtPr g w_2 21 201 19 rfl rfl rfl) nX10_times (Nat.le_of_ble_eq_true rfl) (Nat.le_of_ble_eq_true rfl) (Nat.le_of_ble_eq_true rfl) (Nat.le_of_ble_eq_true rfl) (fun h_3 w_3 => ?_)
  refine X_aload_n (pc := 65) 0 dX10_steps_65 rfl rfl ?_
  refine X_getfield (pc := 66) dX10_steps_66 fg_X10_61_11 (MW.ob w_3) mf_9 ?_
  refine X_aload_n (pc := 69) 0 dX10_steps_69 rfl rfl ?_
  refine X_getfield (pc := 70) dX10_steps_70 fg_X10_177_11 (MW.ob w_3) mf_21 ?_
  refine X_aload_n (pc := 73) 0 dX10_steps_73 rfl rfl ?_
  refine X_getfield (pc := 74) dX10_steps_74 fg_X10_174_11 (MW.ob w_3) mf_17 ?_
  refine X_aload_n (pc := 77) 0 dX10_steps_77 rfl rfl ?_
  refine X_getfield (pc := 78) dX10_steps_78 fg_X10_177_11 (MW.ob w_3) mf_21 ?_
  refine X_isv (pc := 81) _ dX10_steps_81 cs_X10_130 rfl (msPr g w_3 21 21 17 rfl rfl rfl) nX10_sub (Nat.le_of_ble_eq_true rfl) (Nat.le_of_ble_eq_true rfl) (Nat.le_of_ble_eq_true rfl) (Nat.le_of_ble_eq_true rfl) (fun h_4 w_4 => ?_)
  refine X_aload_n (pc := 84) 0 dX10_steps_84 rfl rfl ?_
  refine X_getfield (pc := 85) dX10_steps_85 fg_X10_177_11 w_4.ob mf_21 ?_
  refine X_bipush (pc := 88) (x := 12) dX10_steps_88 (by decide) ?_
  refine X_isi (pc := 90) _ dX10_steps_90 cs_X10_122 rfl (mzW g (n := 12) (OpM.n w_4 21 rfl)) nX10_isZero (Nat.le_of_ble_eq_true rfl) (Nat.le_of_ble_eq_true rfl) (Nat.le_of_ble_eq_true rfl) (Nat.le_of_ble_eq_true rfl) (fun r5 h5 q5 => ?_)
  obtain ⟨rfl, rfl⟩ := q5
  refine X_if_eq (pc := 93) 116 dX10_steps_93 (by decide) (fun c_93 => ?_) (fun c_93 => ?_)
  · have hz : ¬ stA R 21 = 0 := if01_0 c_93
    refine X_aload_n (pc := 116) 0 dX10_steps_116 rfl rfl ?_
    refine X_aload_n (pc := 117) 0 dX10_steps_117 rfl rfl ?_
    refine X_getfield (pc := 118) dX10_steps_118 fg_X10_61_11 (MW.ob w_4) mf_9 ?_
    refine X_aload_n (pc := 121) 0 dX10_steps_121 rfl rfl ?_
    refine X_getfield (pc := 122) dX10_steps_122 fg_X10_177_11 (MW.ob w_4) mf_21 ?_
    refine X_aload_n (pc := 125) 0 dX10_steps_125 rfl rfl ?_
    refine X_getfield (pc := 126) dX10_steps_126 fg_X10_177_11 (MW.ob w_4) mf_21 ?_
    refine X_aload_n (pc := 129) 0 dX10_steps_129 rfl rfl ?_
    refine X_getfield (pc := 130) dX10_steps_130 fg_X10_183_11 (MW.ob w_4) mf_22 ?_
    refine X_ivv (pc := 133) _ dX10_steps_133 cv_X10_102_11 (MW.ob w_4) rfl (mtPr g w_4 22 21 21 rfl rfl rfl) nX10_times (Nat.le_of_ble_eq_true rfl) (Nat.le_of_ble_eq_true rfl) (Nat.le_of_ble_eq_true rfl) (Nat.le_of_ble_eq_true rfl) (fun h_5 w_5 => ?_)
    refine X_aload_n (pc := 136) 0 dX10_steps_136 rfl rfl ?_
    refine X_aload_n (pc := 137) 0 dX10_steps_137 rfl rfl ?_
    refine X_getfield (pc := 138) dX10_steps_138 fg_X10_61_11 (MW.ob w_5) mf_9 ?_
    refine X_aload_n (pc := 141) 0 dX10_steps_141 rfl rfl ?_
    refine X_getfield (pc := 142) dX10_steps_142 fg_X10_183_11 (MW.ob w_5) mf_22 ?_
    refine X_aload_n (pc := 145) 0 dX10_steps_145 rfl rfl ?_
    refine X_getfield (pc := 146) dX10_steps_146 fg_X10_174_11 (MW.ob w_5) mf_17 ?_
    refine X_aload_n (pc := 149) 0 dX10_steps_149 rfl rfl ?_
    refine X_getfield (pc := 150) dX10_steps_150 fg_X10_174_11 (MW.ob w_5) mf_17 ?_
    refine X_ivv (pc := 153) _ dX10_steps_153 cv_X10_102_11 (MW.ob w_5) rfl (mtPr g w_5 17 22 17 rfl rfl rfl) nX10_times (Nat.le_of_ble_eq_true rfl) (Nat.le_of_ble_eq_true rfl) (Nat.le_of_ble_eq_true rfl) (Nat.le_of_ble_eq_true rfl) (fun h_6 w_6 => ?_)
    refine X_aload_n (pc := 156) 0 dX10_steps_156 rfl rfl ?_
    refine X_aload_n (pc := 157) 0 dX10_steps_157 rfl rfl ?_
    refine X_getfield (pc := 158) dX10_steps_158 fg_X10_61_11 (MW.ob w_6) mf_9 ?_
    refine X_aload_n (pc := 161) 0 dX10_steps_161 rfl rfl ?_
    refine X_getfield (pc := 162) dX10_steps_162 fg_X10_183_11 (MW.ob w_6) mf_22 ?_
    refine X_aload_n (pc := 165) 0 dX10_steps_165 rfl rfl ?_
    refine X_getfield (pc := 166) dX10_steps_166 fg_X10_177_11 (MW.ob w_6) mf_21 ?_
    refine X_aload_n (pc := 169) 0 dX10_steps_169 rfl rfl ?_
    refine X_getfield (pc := 170) dX10_steps_170 fg_X10_183_11 (MW.ob w_6) mf_22 ?_
    refine X_ivv (pc := 173) _ dX10_steps_173 cv_X10_102_11 (MW.ob w_6) rfl (mtPr g w_6 22 22 21 rfl rfl rfl) nX10_times (Nat.le_of_ble_eq_true rfl) (Nat.le_of_ble_eq_true rfl) (Nat.le_of_ble_eq_true rfl) (Nat.le_of_ble_eq_true rfl) (fun h_7 w_7 => ?_)
    refine X_aload_n (pc := 176) 0 dX10_steps_176 rfl rfl ?_
    refine X_aload_n (pc := 177) 0 dX10_steps_177 rfl rfl ?_
    refine X_getfield (pc := 178) dX10_steps_178 fg_X10_61_11 (MW.ob w_7) mf_9 ?_
    refine X_aload_n (pc := 181) 0 dX10_steps_181 rfl rfl ?_
    refine X_getfield (pc := 182) dX10_steps_182 fg_X10_171_11 (MW.ob w_7) mf_20 ?_
    refine X_aload_n (pc := 185) 0 dX10_steps_185 rfl rfl ?_
    refine X_getfield (pc := 186) dX10_steps_186 fg_X10_171_11 (MW.ob w_7) mf_20 ?_
    refine X_aload_n (pc := 189) 0 dX10_steps_189 rfl rfl ?_
    refine X_getfield (pc := 190) dX10_steps_190 fg_X10_186_11 (MW.ob w_7) mf_23 ?_
    refine X_ivv (pc := 193) _ dX10_steps_193 cv_X10_102_11 (MW.ob w_7) rfl (mtPr g w_7 23 20 20 rfl rfl rfl) nX10_times (Nat.le_of_ble_eq_true rfl) (Nat.le_of_ble_eq_true rfl) (Nat.le_of_ble_eq_true rfl) (Nat.le_of_ble_eq_true rfl) (fun h_8 w_8 => ?_)
    refine X_aload_n (pc := 196) 0 dX10_steps_196 rfl rfl ?_
    refine X_aload_n (pc := 197) 0 dX10_steps_197 rfl rfl ?_
    refine X_getfield (pc := 198) dX10_steps_198 fg_X10_61_11 (MW.ob w_8) mf_9 ?_
    refine X_aload_n (pc := 201) 0 dX10_steps_201 rfl rfl ?_
    refine X_getfield (pc := 202) dX10_steps_202 fg_X10_186_11 (MW.ob w_8) mf_23 ?_
    refine X_aload_n (pc := 205) 0 dX10_steps_205 rfl rfl ?_
    refine X_getfield (pc := 206) dX10_steps_206 fg_X10_168_11 (MW.ob w_8) mf_19 ?_
    refine X_aload_n (pc := 209) 0 dX10_steps_209 rfl rfl ?_
    refine X_getfield (pc := 210) dX10_steps_210 fg_X10_186_11 (MW.ob w_8) mf_23 ?_
    refine X_ivv (pc := 213) _ dX10_steps_213 cv_X10_102_11 (MW.ob w_8) rfl (mtPr g w_8 23 23 19 rfl rfl rfl) nX10_times (Nat.le_of_ble_eq_true rfl) (Nat.le_of_ble_eq_true rfl) (Nat.le_of_ble_eq_true rfl) (Nat.le_of_ble_eq_true rfl) (fun h_9 w_9 => ?_)
    refine X_aload_n (pc := 216) 0 dX10_steps_216 rfl rfl ?_
    refine X_getfield (pc := 217) dX10_steps_217 fg_X10_61_11 (MW.ob w_9) mf_9 ?_
    refine X_aload_n (pc := 220) 0 dX10_steps_220 rfl rfl ?_
    refine X_getfield (pc := 221) dX10_steps_221 fg_X10_186_11 (MW.ob w_9) mf_23 ?_
    refine X_aload_n (pc := 224) 0 dX10_steps_224 rfl rfl ?_
    refine X_getfield (pc := 225) dX10_steps_225 fg_X10_183_11 (MW.ob w_9) mf_22 ?_
    refine X_aload_n (pc := 228) 0 dX10_steps_228 rfl rfl ?_
    refine X_getfield (pc := 229) dX10_steps_229 fg_X10_186_11 (MW.ob w_9) mf_23 ?_
    refine X_isv (pc := 232) _ dX10_steps_232 cs_X10_130 rfl (msPr g w_9 23 23 22 rfl rfl rfl) nX10_sub (Nat.le_of_ble_eq_true rfl) (Nat.le_of_ble_eq_true rfl) (Nat.le_of_ble_eq_true rfl) (Nat.le_of_ble_eq_true rfl) (fun h_10 w_10 => ?_)
    refine X_aload_n (pc := 235) 0 dX10_steps_235 rfl rfl ?_
    refine X_getfield (pc := 236) dX10_steps_236 fg_X10_61_11 (MW.ob w_10) mf_9 ?_
    refine X_aload_n (pc := 239) 0 dX10_steps_239 rfl rfl ?_
    refine X_getfield (pc := 240) dX10_steps_240 fg_X10_186_11 (MW.ob w_10) mf_23 ?_
    refine X_aload_n (pc := 243) 0 dX10_steps_243 rfl rfl ?_
    refine X_getfield (pc := 244) dX10_steps_244 fg_X10_174_11 (MW.ob w_10) mf_17 ?_
    refine X_aload_n (pc := 247) 0 dX10_steps_247 rfl rfl ?_
    refine X_getfield (pc := 248) dX10_steps_248 fg_X10_186_11 (MW.ob w_10) mf_23 ?_
    refine X_isv (pc := 251) _ dX10_steps_251 cs_X10_130 rfl (msPr g w_10 23 23 17 rfl rfl rfl) nX10_sub (Nat.le_of_ble_eq_true rfl) (Nat.le_of_ble_eq_true rfl) (Nat.le_of_ble_eq_true rfl) (Nat.le_of_ble_eq_true rfl) (fun h_11 w_11 => ?_)
    refine X_aload_n (pc := 254) 0 dX10_steps_254 rfl rfl ?_
    refine X_getfield (pc := 255) dX10_steps_255 fg_X10_61_11 (MW.ob w_11) mf_9 ?_
    refine X_aload_n (pc := 258) 0 dX10_steps_258 rfl rfl ?_
    refine X_getfield (pc := 259) dX10_steps_259 fg_X10_186_11 (MW.ob w_11) mf_23 ?_
    refine X_aload_n (pc := 262) 0 dX10_steps_262 rfl rfl ?_
    refine X_getfield (pc := 263) dX10_steps_263 fg_X10_174_11 (MW.ob w_11) mf_17 ?_
    refine X_aload_n (pc := 266) 0 dX10_steps_266 rfl rfl ?_
    refine X_getfield (pc := 267) dX10_steps_267 fg_X10_186_11 (MW.ob w_11) mf_23 ?_
    refine X_isv (pc := 270) _ dX10_steps_270 cs_X10_130 rfl (msPr g w_11 23 23 17 rfl rfl rfl) nX10_sub (Nat.le_of_ble_eq_true rfl) (Nat.le_of_ble_eq_true rfl) (Nat.le_of_ble_eq_true rfl) (Nat.le_of_ble_eq_true rfl) (fun h_12 w_12 => ?_)
    refine X_aload_n (pc := 273) 0 dX10_steps_273 rfl rfl ?_
    refine X_getfield (pc := 274) dX10_steps_274 fg_X10_61_11 (MW.ob w_12) mf_9 ?_
    refine X_aload_n (pc := 277) 0 dX10_steps_277 rfl rfl ?_
    refine X_getfield (pc := 278) dX10_steps_278 fg_X10_174_11 (MW.ob w_12) mf_17 ?_
    refine X_aload_n (pc := 281) 0 dX10_steps_281 rfl rfl ?_
    refine X_getfield (pc := 282) dX10_steps_282 fg_X10_186_11 (MW.ob w_12) mf_23 ?_
    refine X_aload_n (pc := 285) 0 dX10_steps_285 rfl rfl ?_
    refine X_getfield (pc := 286) dX10_steps_286 fg_X10_174_11 (MW.ob w_12) mf_17 ?_
    refine X_isv (pc := 289) _ dX10_steps_289 cs_X10_130 rfl (msPr g w_12 17 17 23 rfl rfl rfl) nX10_sub (Nat.le_of_ble_eq_true rfl) (Nat.le_of_ble_eq_true rfl) (Nat.le_of_ble_eq_true rfl) (Nat.le_of_ble_eq_true rfl) (fun h_13 w_13 => ?_)
    refine X_aload_n (pc := 292) 0 dX10_steps_292 rfl rfl ?_
    refine X_aload_n (pc := 293) 0 dX10_steps_293 rfl rfl ?_
    refine X_getfield (pc := 294) dX10_steps_294 fg_X10_61_11 (MW.ob w_13) mf_9 ?_
    refine X_aload_n (pc := 297) 0 dX10_steps_297 rfl rfl ?_
    refine X_getfield (pc := 298) dX10_steps_298 fg_X10_171_11 (MW.ob w_13) mf_20 ?_
    refine X_aload_n (pc := 301) 0 dX10_steps_301 rfl rfl ?_
    refine X_getfield (pc := 302) dX10_steps_302 fg_X10_174_11 (MW.ob w_13) mf_17 ?_
    refine X_aload_n (pc := 305) 0 dX10_steps_305 rfl rfl ?_
    refine X_getfield (pc := 306) dX10_steps_306 fg_X10_171_11 (MW.ob w_13) mf_20 ?_
    refine X_ivv (pc := 309) _ dX10_steps_309 cv_X10_102_11 (MW.ob w_13) rfl (mtPr g w_13 20 20 17 rfl rfl rfl) nX10_times (Nat.le_of_ble_eq_true rfl) (Nat.le_of_ble_eq_true rfl) (Nat.le_of_ble_eq_true rfl) (Nat.le_of_ble_eq_true rfl) (fun h_14 w_14 => ?_)
    refine X_aload_n (pc := 312) 0 dX10_steps_312 rfl rfl ?_
    refine X_aload_n (pc := 313) 0 dX10_steps_313 rfl rfl ?_
    refine X_getfield (pc := 314) dX10_steps_314 fg_X10_61_11 (MW.ob w_14) mf_9 ?_
    refine X_aload_n (pc := 317) 0 dX10_steps_317 rfl rfl ?_
    refine X_getfield (pc := 318) dX10_steps_318 fg_X10_183_11 (MW.ob w_14) mf_22 ?_
    refine X_aload_n (pc := 321) 0 dX10_steps_321 rfl rfl ?_
    refine X_getfield (pc := 322) dX10_steps_322 fg_X10_180_11 (MW.ob w_14) mf_18 ?_
    refine X_aload_n (pc := 325) 0 dX10_steps_325 rfl rfl ?_
    refine X_getfield (pc := 326) dX10_steps_326 fg_X10_180_11 (MW.ob w_14) mf_18 ?_
    refine X_ivv (pc := 329) _ dX10_steps_329 cv_X10_102_11 (MW.ob w_14) rfl (mtPr g w_14 18 22 18 rfl rfl rfl) nX10_times (Nat.le_of_ble_eq_true rfl) (Nat.le_of_ble_eq_true rfl) (Nat.le_of_ble_eq_true rfl) (Nat.le_of_ble_eq_true rfl) (fun h_15 w_15 => ?_)
    refine X_aload_n (pc := 332) 0 dX10_steps_332 rfl rfl ?_
    refine X_getfield (pc := 333) dX10_steps_333 fg_X10_61_11 (MW.ob w_15) mf_9 ?_
    refine X_aload_n (pc := 336) 0 dX10_steps_336 rfl rfl ?_
    refine X_getfield (pc := 337) dX10_steps_337 fg_X10_171_11 (MW.ob w_15) mf_20 ?_
    refine X_aload_n (pc := 340) 0 dX10_steps_340 rfl rfl ?_
    refine X_getfield (pc := 341) dX10_steps_341 fg_X10_180_11 (MW.ob w_15) mf_18 ?_
    refine X_aload_n (pc := 344) 0 dX10_steps_344 rfl rfl ?_
    refine X_getfield (pc := 345) dX10_steps_345 fg_X10_180_11 (MW.ob w_15) mf_18 ?_
    refine X_isv (pc := 348) _ dX10_steps_348 cs_X10_130 rfl (msPr g w_15 18 20 18 rfl rfl rfl) nX10_sub (Nat.le_of_ble_eq_true rfl) (Nat.le_of_ble_eq_true rfl) (Nat.le_of_ble_eq_true rfl) (Nat.le_of_ble_eq_true rfl) (fun h_16 w_16 => ?_)
    refine X_aload_n (pc := 351) 0 dX10_steps_351 rfl rfl ?_
    refine X_aload_n (pc := 352) 0 dX10_steps_352 rfl rfl ?_
    refine X_getfield (pc := 353) dX10_steps_353 fg_X10_61_11 (MW.ob w_16) mf_9 ?_
    refine X_aload_n (pc := 356) 0 dX10_steps_356 rfl rfl ?_
    refine X_getfield (pc := 357) dX10_steps_357 fg_X10_177_11 (MW.ob w_16) mf_21 ?_
    refine X_aload_n (pc := 360) 0 dX10_steps_360 rfl rfl ?_
    refine X_getfield (pc := 361) dX10_steps_361 fg_X10_186_11 (MW.ob w_16) mf_23 ?_
    refine X_aload_n (pc := 364) 0 dX10_steps_364 rfl rfl ?_
    refine X_getfield (pc := 365) dX10_steps_365 fg_X10_174_11 (MW.ob w_16) mf_17 ?_
    refine X_ivv (pc := 368) _ dX10_steps_368 cv_X10_102_11 (MW.ob w_16) rfl (mtPr g w_16 17 21 23 rfl rfl rfl) nX10_times (Nat.le_of_ble_eq_true rfl) (Nat.le_of_ble_eq_true rfl) (Nat.le_of_ble_eq_true rfl) (Nat.le_of_ble_eq_true rfl) (fun h_17 w_17 => ?_)
    refine X_aload_n (pc := 371) 0 dX10_steps_371 rfl rfl ?_
    refine X_aload_n (pc := 372) 0 dX10_steps_372 rfl rfl ?_
    refine X_getfield (pc := 373) dX10_steps_373 fg_X10_61_11 (MW.ob w_17) mf_9 ?_
    refine X_aload_n (pc := 376) 0 dX10_steps_376 rfl rfl ?_
    refine X_getfield (pc := 377) dX10_steps_377 fg_X10_183_11 (MW.ob w_17) mf_22 ?_
    refine X_aload_n (pc := 380) 0 dX10_steps_380 rfl rfl ?_
    refine X_getfield (pc := 381) dX10_steps_381 fg_X10_168_11 (MW.ob w_17) mf_19 ?_
    refine X_aload_n (pc := 384) 0 dX10_steps_384 rfl rfl ?_
    refine X_getfield (pc := 385) dX10_steps_385 fg_X10_168_11 (MW.ob w_17) mf_19 ?_
    refine X_ivv (pc := 388) _ dX10_steps_388 cv_X10_102_11 (MW.ob w_17) rfl (mtPr g w_17 19 22 19 rfl rfl rfl) nX10_times (Nat.le_of_ble_eq_true rfl) (Nat.le_of_ble_eq_true rfl) (Nat.le_of_ble_eq_true rfl) (Nat.le_of_ble_eq_true rfl) (fun h_18 w_18 => ?_)
    refine X_iconst (pc := 391) (x := 1) dX10_steps_391 (by decide) ?_
    refine X_zreturn (pc := 392) dX10_steps_392 rfl (by first | exact Or.inl rfl | exact Or.inr rfl | assumption | exact zo_if) (Nat.le_of_ble_eq_true rfl) (Nat.le_of_ble_eq_true rfl) ?_
    refine ⟨1, rfl, fun c => absurd c.1 hz, fun _ => rfl, ?_⟩
    unfold stR
    rw [if_neg hz]
    exact w_18
  · have hz : stA R 21 = 0 := if01_1 c_93
    refine X_aload_n (pc := 96) 0 dX10_steps_96 rfl rfl ?_
    refine X_getfield (pc := 97) dX10_steps_97 fg_X10_171_11 w_4.ob mf_20 ?_
    refine X_bipush (pc := 100) (x := 12) dX10_steps_100 (by decide) ?_
    refine X_isi (pc := 102) _ dX10_steps_102 cs_X10_122 rfl (mzW g (n := 12) (OpM.n w_4 20 rfl)) nX10_isZero (Nat.le_of_ble_eq_true rfl) (Nat.le_of_ble_eq_true rfl) (Nat.le_of_ble_eq_true rfl) (Nat.le_of_ble_eq_true rfl) (fun r6 h6 q6 => ?_)
    obtain ⟨rfl, rfl⟩ := q6
    refine X_if_ne (pc := 105) 110 dX10_steps_105 (by decide) (fun c_105 => ?_) (fun c_105 => ?_)
    · have hy : stA R 20 = 0 := if01_1 c_105
      refine X_aload_n (pc := 110) 0 dX10_steps_110 rfl rfl ?_
      refine X_ivv (pc := 111) _ dX10_steps_111 cv_X10_196_11 w_4.ob rfl (doubles_ok g w_4) nX10_doubles (Nat.le_of_ble_eq_true rfl) (Nat.le_of_ble_eq_true rfl) (Nat.le_of_ble_eq_true rfl) (Nat.le_of_ble_eq_true rfl) (fun h7 w7 => ?_)
      refine X_iconst (pc := 114) (x := 1) dX10_steps_114 (by decide) ?_
      refine X_zreturn (pc := 115) dX10_steps_115 rfl (by first | exact Or.inl rfl | exact Or.inr rfl | assumption | exact zo_if) (Nat.le_of_ble_eq_true rfl) (Nat.le_of_ble_eq_true rfl) ?_
      refine ⟨1, rfl, fun c => absurd hy c.2, fun _ => rfl, ?_⟩
      unfold stR
      rw [if_pos hz, if_pos hy]
      exact w7
    · have hy : ¬ stA R 20 = 0 := if01_0 c_105
      refine X_iconst (pc := 108) (x := 0) dX10_steps_108 (by decide) ?_
      refine X_zreturn (pc := 109) dX10_steps_109 rfl (by first | exact Or.inl rfl | exact Or.inr rfl | assumption | exact zo_if) (Nat.le_of_ble_eq_true rfl) (Nat.le_of_ble_eq_true rfl) ?_
      refine ⟨0, rfl, fun _ => rfl, fun c => absurd ⟨hz, hy⟩ c, ?_⟩
      unfold stR
      rw [if_pos hz, if_neg hy]
      exact w_4
end MS
theorem zero_fp {n : Nat} (h : n < pP) : fp n = 0 ↔ n = 0 := ⟨fun e => fp_inj h pP_pos (by rw [e, fp_0]), fun e => by rw [e, fp_0]⟩
theorem steps_m {R : Nat → Nat} {P : PP} {a b : Fp} (h17 : R 17 < pP) (h18 : R 18 < pP) (h19 : R 19 < pP) (h201 : vl R 201 a) (h301 : vl R 301 b) (hP : OnP P) (hW : OnP (some (a, b))) (h : PjR R P) :
    (stN R → adP P (some (a, b)) = none) ∧ (¬ stN R → PjR (stR R) (adP P (some (a, b)))) := by
  obtain ⟨⟨e17, b17⟩, ⟨e18, b18⟩, ⟨e19, b19⟩, ⟨e20, b20⟩, ⟨e21, b21⟩, -, -⟩ := stA_v (R := R) ⟨rfl, h17⟩ ⟨rfl, h18⟩ ⟨rfl, h19⟩ h201 h301
  have z20 := zero_fp b20
  have z21 := zero_fp b21
  have hA : PjR (stA R) P := by unfold PjR; rw [e17, e18, e19]; exact h
  unfold stN stR
  by_cases c1 : stA R 21 = 0
  · rw [if_pos c1]
    have d0 := z21.mpr c1
    rw [e21] at d0
    obtain ⟨k1, k2⟩ := Pj_same hP hW h d0
    by_cases c2 : stA R 20 = 0
    · rw [if_pos c2]
      refine ⟨fun z => absurd c2 z.2, fun _ => ?_⟩
      have d1 := z20.mpr c2
      rw [e20] at d1
      have := k1 d1
      rw [← this]
      exact dbl_ok b17 b18 b19 hP hA
    · refine ⟨fun _ => k2 (fun z => c2 (z20.mp (by rw [e20]; exact z))), fun z => absurd ⟨c1, c2⟩ z⟩
  · rw [if_neg c1]
    refine ⟨fun z => absurd z.1 c1, fun _ => ?_⟩
    obtain ⟨⟨f1, -⟩, ⟨f2, -⟩, ⟨f3, -⟩⟩ := stB_v (R := stA R) ⟨rfl, b17⟩ ⟨rfl, b18⟩ ⟨rfl, b19⟩ ⟨rfl, b20⟩ ⟨rfl, b21⟩
    unfold PjR
    rw [f1, f2, f3, stB_17, stB_18, stB_19]
    exact Pj_add (a := a) (b := b) hA _ _ (by rw [e21, e19, e17]) (by rw [e20, e19, e18]) (fun z => c1 (z21.mp z))
