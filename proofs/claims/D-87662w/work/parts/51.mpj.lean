set_option maxRecDepth 100000
theorem dq1 {F : Type} [Lean.Grind.CommRing F] {l a b u : F} (hl : l * (b + b) = 3 * (a * a - 1)) : 3 * (a * u * (a * u) - u * u) = l * (b + b) * (u * u) := by
  rw [hl]
  clear hl
  grind
theorem dq2 {F : Type} [Lean.Grind.CommRing F] {l a b u E : F} (hE : E = l * (b + b) * (u * u)) : 2 * ((E * E - 4 * (a * u * (b * u) * (b * u * u)) - 4 * (a * u * (b * u) * (b * u * u))) * (b * u * u)) = (l * l - a - a) * (8 * (b * u * u * (b * u * u) * (b * u * u))) := by
  subst hE
  grind
theorem dq3 {F : Type} [Lean.Grind.CommRing F] {l a b u E : F} (hE : E = l * (b + b) * (u * u)) : E * (4 * (a * u * (b * u) * (b * u * u)) - (E * E - 4 * (a * u * (b * u) * (b * u * u)) - 4 * (a * u * (b * u) * (b * u * u)))) - 8 * (b * u * (b * u * u) * (b * u * (b * u * u))) = (l * (a - (l * l - a - a)) - b) * (8 * (b * u * u * (b * u * u) * (b * u * u))) := by
  subst hE
  grind
theorem dq4 {F : Type} [Lean.Grind.CommRing F] (x : F) : x + x = 2 * x := by grind
theorem dq5 {F : Type} [Lean.Grind.CommRing F] (x : F) : 2 * (2 * x) = 4 * x := by grind
theorem dq6 {F : Type} [Lean.Grind.CommRing F] (x : F) : 2 * (4 * x) = 8 * x := by grind
theorem dq7 {F : Type} [Lean.Grind.CommRing F] (x : F) : 2 * x + x = 3 * x := by grind
theorem Pj_dbl {x y u : Fp} {P : PP} (hP : OnP P) (h : Pj x y u P) :
    Pj (2 * ((3 * (x * x - u * u) * (3 * (x * x - u * u)) - 4 * (x * y * (y * u)) - 4 * (x * y * (y * u))) * (y * u)))
      (3 * (x * x - u * u) * (4 * (x * y * (y * u)) - (3 * (x * x - u * u) * (3 * (x * x - u * u)) - 4 * (x * y * (y * u)) - 4 * (x * y * (y * u)))) - 8 * (y * (y * u) * (y * (y * u)))) (8 * (y * u * (y * u) * (y * u))) (adP P P) := by
  match P, hP, h with
  | none, _, h => exact h.elim
  | some (a, b), hP, h =>
    obtain ⟨h0, hx, hy⟩ := h
    obtain ⟨l, hl, e⟩ := ad_self hP
    have hb0 : b ≠ 0 := FHp.2.2.2 a b hP
    subst hx
    subst hy
    rw [e]
    have hE := dq1 (u := u) hl
    have h8 : (8 : Fp) ≠ 0 := by decide +kernel
    refine ⟨nz2 h8 (nz2 (nz2 (nz2 (nz2 hb0 h0) h0) (nz2 (nz2 hb0 h0) h0)) (nz2 (nz2 hb0 h0) h0)), dq2 hE, dq3 hE⟩
theorem rz15 {F : Type} [Lean.Grind.CommRing F] {w a : F} : (a - a) * w = 0 := by grind
theorem sq1 {F : Type} [Lean.Grind.CommRing F] {a b u : F} : a * u - b * u = (a - b) * u := by grind
theorem sq2 {F : Type} [Lean.Grind.CommRing F] {l d x1 x2 u : F} (hd : d = x2 - x1) : d * u * (l * d * u * (l * d * u) * u - d * u * (d * u) * (d * u) - d * u * (d * u) * (x1 * u) - d * u * (d * u) * (x1 * u)) = (l * l - x1 - x2) * (d * u * (d * u) * (d * u) * u) := by
  subst hd
  grind
theorem sq3 {F : Type} [Lean.Grind.CommRing F] {l d x1 x2 y1 u : F} (hd : d = x2 - x1) : l * d * u * (d * u * (d * u) * (x1 * u) - (l * d * u * (l * d * u) * u - d * u * (d * u) * (d * u) - d * u * (d * u) * (x1 * u) - d * u * (d * u) * (x1 * u))) - d * u * (d * u) * (d * u) * (y1 * u) = (l * (x1 - (l * l - x1 - x2)) - y1) * (d * u * (d * u) * (d * u) * u) := by
  subst hd
  grind
/-- a step with the point (a, b): e = b u - y, d = a u - x -/
theorem Pj_add {x y u a b : Fp} {P : PP} (h : Pj x y u P) (d e : Fp) (hd : d = a * u - x) (he : e = b * u - y) (h0 : d ≠ 0) :
    Pj (d * (e * e * u - d * d * d - d * d * x - d * d * x)) (e * (d * d * x - (e * e * u - d * d * d - d * d * x - d * d * x)) - d * d * d * y) (d * d * d * u) (adP P (some (a, b))) := by
  match P, h with
  | none, h => exact h.elim
  | some (x1, y1), h =>
    obtain ⟨hu, hx, hy⟩ := h
    subst hx
    subst hy
    rw [sq1] at hd he
    have hne : x1 ≠ a := fun z => h0 (by rw [hd, z]; exact rz15)
    obtain ⟨l, hl, e1⟩ := ad_diff (y1 := y1) (y2 := b) hne
    rw [e1]
    rw [← hl] at he
    subst hd
    subst he
    refine ⟨nz2 (nz2 (nz2 h0 h0) h0) hu, sq2 rfl, sq3 rfl⟩
theorem Pj_same {x y u a b : Fp} {P : PP} (hP : OnP P) (hW : OnP (some (a, b))) (h : Pj x y u P) (hd : a * u - x = 0) : (b * u - y = 0 → P = some (a, b)) ∧ (b * u - y ≠ 0 → adP P (some (a, b)) = none) := by
  match P, hP, h with
  | none, _, h => exact h.elim
  | some (x1, y1), hP, h =>
    obtain ⟨hu, hx, hy⟩ := h
    subst hx
    subst hy
    rw [sq1] at hd
    have hx : a = x1 := by
      rcases fp_dom _ _ hd with z | z
      · exact rg12 z
      · exact absurd z hu
    subst hx
    rw [sq1]
    have hyy : y1 * y1 = b * b := hP.trans hW.symm
    constructor
    · intro z
      rcases fp_dom _ _ z with z | z
      · rw [rg12 z]
      · exact absurd z hu
    · intro z
      rcases sq_eq hyy with q | q
      · exact absurd (by rw [q]; exact rz15) z
      · exact eAdd_inv rfl (by rw [q]; exact rg27)
/-! the registers 17, 18, 19 of the reference -/
def PjR (R : Nat → Nat) (P : PP) : Prop := Pj (fp (R 17)) (fp (R 18)) (fp (R 19)) P
/- %regs dblRx 0 446 -/
def dblR0 (R : Nat → Nat) : Nat → Nat := r8 19 (rMul 19 20 21 (rMul 20 21 21 (rAdd 17 17 17 (rMul 17 23 21 (rSub 18 22 20 (r8 20 (rMul 20 20 20 (rMul 20 18 21 (rMul 22 20 22 (rSub 22 22 23 (rSub 23 23 22 (rSub 23 23 22 (rMul 23 20 20 (rAdd 22 22 22 (rAdd 22 22 22 (rMul 22 22 21 (rMul 22 17 18 (rMul 21 18 19 (rAdd 20 20 21 (rAdd 20 21 21 (rSub 21 21 20 (rMul 21 17 17 (rMul 20 19 19 R)))))))))))))))))))))))
theorem dblR_v {R : Nat → Nat} {x17 x18 x19 : Fp} (t0_17 : vl R 17 x17) (t0_18 : vl R 18 x18) (t0_19 : vl R 19 x19) : vl (dblR R) 17 (((((((((x17 * x17) - (x19 * x19)) + ((x17 * x17) - (x19 * x19))) + ((x17 * x17) - (x19 * x19))) * ((((x17 * x17) - (x19 * x19)) + ((x17 * x17) - (x19 * x19))) + ((x17 * x17) - (x19 * x19)))) - ((((x17 * x18) * (x18 * x19)) + ((x17 * x18) * (x18 * x19))) + (((x17 * x18) * (x18 * x19)) + ((x17 * x18) * (x18 * x19))))) - ((((x17 * x18) * (x18 * x19)) + ((x17 * x18) * (x18 * x19))) + (((x17 * x18) * (x18 * x19)) + ((x17 * x18) * (x18 * x19))))) * (x18 * x19)) + ((((((((x17 * x17) - (x19 * x19)) + ((x17 * x17) - (x19 * x19))) + ((x17 * x17) - (x19 * x19))) * ((((x17 * x17) - (x19 * x19)) + ((x17 * x17) - (x19 * x19))) + ((x17 * x17) - (x19 * x19)))) - ((((x17 * x18) * (x18 * x19)) + ((x17 * x18) * (x18 * x19))) + (((x17 * x18) * (x18 * x19)) + ((x17 * x18) * (x18 * x19))))) - ((((x17 * x18) * (x18 * x19)) + ((x17 * x18) * (x18 * x19))) + (((x17 * x18) * (x18 * x19)) + ((x17 * x18) * (x18 * x19))))) * (x18 * x19))) ∧ vl (dblR R) 18 ((((((x17 * x17) - (x19 * x19)) + ((x17 * x17) - (x19 * x19))) + ((x17 * x17) - (x19 * x19))) * (((((x17 * x18) * (x18 * x19)) + ((x17 * x18) * (x18 * x19))) + (((x17 * x18) * (x18 * x19)) + ((x17 * x18) * (x18 * x19)))) - (((((((x17 * x17) - (x19 * x19)) + ((x17 * x17) - (x19 * x19))) + ((x17 * x17) - (x19 * x19))) * ((((x17 * x17) - (x19 * x19)) + ((x17 * x17) - (x19 * x19))) + ((x17 * x17) - (x19 * x19)))) - ((((x17 * x18) * (x18 * x19)) + ((x17 * x18) * (x18 * x19))) + (((x17 * x18) * (x18 * x19)) + ((x17 * x18) * (x18 * x19))))) - ((((x17 * x18) * (x18 * x19)) + ((x17 * x18) * (x18 * x19))) + (((x17 * x18) * (x18 * x19)) + ((x17 * x18) * (x18 * x19))))))) - (((((x18 * (x18 * x19)) * (x18 * (x18 * x19))) + ((x18 * (x18 * x19)) * (x18 * (x18 * x19)))) + (((x18 * (x18 * x19)) * (x18 * (x18 * x19))) + ((x18 * (x18 * x19)) * (x18 * (x18 * x19))))) + ((((x18 * (x18 * x19)) * (x18 * (x18 * x19))) + ((x18 * (x18 * x19)) * (x18 * (x18 * x19)))) + (((x18 * (x18 * x19)) * (x18 * (x18 * x19))) + ((x18 * (x18 * x19)) * (x18 * (x18 * x19))))))) ∧ vl (dblR R) 19 ((((((x18 * x19) * (x18 * x19)) * (x18 * x19)) + (((x18 * x19) * (x18 * x19)) * (x18 * x19))) + ((((x18 * x19) * (x18 * x19)) * (x18 * x19)) + (((x18 * x19) * (x18 * x19)) * (x18 * x19)))) + (((((x18 * x19) * (x18 * x19)) * (x18 * x19)) + (((x18 * x19) * (x18 * x19)) * (x18 * x19))) + ((((x18 * x19) * (x18 * x19)) * (x18 * x19)) + (((x18 * x19) * (x18 * x19)) * (x18 * x19))))) := by
  have t1_17 := vl_Mo (k := 20) (a := 19) (b := 19) t0_17 (by decide)
  have t1_18 := vl_Mo (k := 20) (a := 19) (b := 19) t0_18 (by decide)
  have t1_19 := vl_Mo (k := 20) (a := 19) (b := 19) t0_19 (by decide)
  have t1_20 := vl_M (k := 20) t0_19 t0_19
  have t2_17 := vl_Mo (k := 21) (a := 17) (b := 17) t1_17 (by decide)
  have t2_18 := vl_Mo (k := 21) (a := 17) (b := 17) t1_18 (by decide)
  have t2_19 := vl_Mo (k := 21) (a := 17) (b := 17) t1_19 (by decide)
  have t2_20 := vl_Mo (k := 21) (a := 17) (b := 17) t1_20 (by decide)
  have t2_21 := vl_M (k := 21) t1_17 t1_17
  have t3_17 := vl_So (k := 21) (a := 21) (b := 20) t2_17 (by decide)
  have t3_18 := vl_So (k := 21) (a := 21) (b := 20) t2_18 (by decide)
  have t3_19 := vl_So (k := 21) (a := 21) (b := 20) t2_19 (by decide)
  have t3_20 := vl_So (k := 21) (a := 21) (b := 20) t2_20 (by decide)
  have t3_21 := vl_S (k := 21) t2_21 t2_20
  have t4_17 := vl_Ao (k := 20) (a := 21) (b := 21) t3_17 (by decide)
  have t4_18 := vl_Ao (k := 20) (a := 21) (b := 21) t3_18 (by decide)
  have t4_19 := vl_Ao (k := 20) (a := 21) (b := 21) t3_19 (by decide)
  have t4_21 := vl_Ao (k := 20) (a := 21) (b := 21) t3_21 (by decide)
  have t4_20 := vl_A (k := 20) t3_21 t3_21
  have t5_17 := vl_Ao (k := 20) (a := 20) (b := 21) t4_17 (by decide)
  have t5_18 := vl_Ao (k := 20) (a := 20) (b := 21) t4_18 (by decide)
  have t5_19 := vl_Ao (k := 20) (a := 20) (b := 21) t4_19 (by decide)
  have t5_21 := vl_Ao (k := 20) (a := 20) (b := 21) t4_21 (by decide)
  have t5_20 := vl_A (k := 20) t4_20 t4_21
  have t6_17 := vl_Mo (k := 21) (a := 18) (b := 19) t5_17 (by decide)
  have t6_18 := vl_Mo (k := 21) (a := 18) (b := 19) t5_18 (by decide)
  have t6_19 := vl_Mo (k := 21) (a := 18) (b := 19) t5_19 (by decide)
  have t6_20 := vl_Mo (k := 21) (a := 18) (b := 19) t5_20 (by decide)
  have t6_21 := vl_M (k := 21) t5_18 t5_19
  have t7_17 := vl_Mo (k := 22) (a := 17) (b := 18) t6_17 (by decide)
  have t7_18 := vl_Mo (k := 22) (a := 17) (b := 18) t6_18 (by decide)
  have t7_19 := vl_Mo (k := 22) (a := 17) (b := 18) t6_19 (by decide)
  have t7_20 := vl_Mo (k := 22) (a := 17) (b := 18) t6_20 (by decide)
  have t7_21 := vl_Mo (k := 22) (a := 17) (b := 18) t6_21 (by decide)
  have t7_22 := vl_M (k := 22) t6_17 t6_18
  have t8_17 := vl_Mo (k := 22) (a := 22) (b := 21) t7_17 (by decide)
  have t8_18 := vl_Mo (k := 22) (a := 22) (b := 21) t7_18 (by decide)
  have t8_19 := vl_Mo (k := 22) (a := 22) (b := 21) t7_19 (by decide)
  have t8_20 := vl_Mo (k := 22) (a := 22) (b := 21) t7_20 (by decide)
  have t8_21 := vl_Mo (k := 22) (a := 22) (b := 21) t7_21 (by decide)
  have t8_22 := vl_M (k := 22) t7_22 t7_21
  have t9_17 := vl_Ao (k := 22) (a := 22) (b := 22) t8_17 (by decide)
  have t9_18 := vl_Ao (k := 22) (a := 22) (b := 22) t8_18 (by decide)
  have t9_19 := vl_Ao (k := 22) (a := 22) (b := 22) t8_19 (by decide)
  have t9_20 := vl_Ao (k := 22) (a := 22) (b := 22) t8_20 (by decide)
  have t9_21 := vl_Ao (k := 22) (a := 22) (b := 22) t8_21 (by decide)
  have t9_22 := vl_A (k := 22) t8_22 t8_22
  have t10_17 := vl_Ao (k := 22) (a := 22) (b := 22) t9_17 (by decide)
  have t10_18 := vl_Ao (k := 22) (a := 22) (b := 22) t9_18 (by decide)
  have t10_19 := vl_Ao (k := 22) (a := 22) (b := 22) t9_19 (by decide)
  have t10_20 := vl_Ao (k := 22) (a := 22) (b := 22) t9_20 (by decide)
  have t10_21 := vl_Ao (k := 22) (a := 22) (b := 22) t9_21 (by decide)
  have t10_22 := vl_A (k := 22) t9_22 t9_22
  have t11_17 := vl_Mo (k := 23) (a := 20) (b := 20) t10_17 (by decide)
  have t11_18 := vl_Mo (k := 23) (a := 20) (b := 20) t10_18 (by decide)
  have t11_19 := vl_Mo (k := 23) (a := 20) (b := 20) t10_19 (by decide)
  have t11_20 := vl_Mo (k := 23) (a := 20) (b := 20) t10_20 (by decide)
  have t11_21 := vl_Mo (k := 23) (a := 20) (b := 20) t10_21 (by decide)
  have t11_22 := vl_Mo (k := 23) (a := 20) (b := 20) t10_22 (by decide)
  have t11_23 := vl_M (k := 23) t10_20 t10_20
  have t12_17 := vl_So (k := 23) (a := 23) (b := 22) t11_17 (by decide)
  have t12_18 := vl_So (k := 23) (a := 23) (b := 22) t11_18 (by decide)
  have t12_19 := vl_So (k := 23) (a := 23) (b := 22) t11_19 (by decide)
  have t12_20 := vl_So (k := 23) (a := 23) (b := 22) t11_20 (by decide)
  have t12_21 := vl_So (k := 23) (a := 23) (b := 22) t11_21 (by decide)
  have t12_22 := vl_So (k := 23) (a := 23) (b := 22) t11_22 (by decide)
  have t12_23 := vl_S (k := 23) t11_23 t11_22
  have t13_17 := vl_So (k := 23) (a := 23) (b := 22) t12_17 (by decide)
  have t13_18 := vl_So (k := 23) (a := 23) (b := 22) t12_18 (by decide)
  have t13_19 := vl_So (k := 23) (a := 23) (b := 22) t12_19 (by decide)
  have t13_20 := vl_So (k := 23) (a := 23) (b := 22) t12_20 (by decide)
  have t13_21 := vl_So (k := 23) (a := 23) (b := 22) t12_21 (by decide)
  have t13_22 := vl_So (k := 23) (a := 23) (b := 22) t12_22 (by decide)
  have t13_23 := vl_S (k := 23) t12_23 t12_22
  have t14_17 := vl_So (k := 22) (a := 22) (b := 23) t13_17 (by decide)
  have t14_18 := vl_So (k := 22) (a := 22) (b := 23) t13_18 (by decide)
  have t14_19 := vl_So (k := 22) (a := 22) (b := 23) t13_19 (by decide)
  have t14_20 := vl_So (k := 22) (a := 22) (b := 23) t13_20 (by decide)
  have t14_21 := vl_So (k := 22) (a := 22) (b := 23) t13_21 (by decide)
  have t14_23 := vl_So (k := 22) (a := 22) (b := 23) t13_23 (by decide)
  have t14_22 := vl_S (k := 22) t13_22 t13_23
  have t15_17 := vl_Mo (k := 22) (a := 20) (b := 22) t14_17 (by decide)
  have t15_18 := vl_Mo (k := 22) (a := 20) (b := 22) t14_18 (by decide)
  have t15_19 := vl_Mo (k := 22) (a := 20) (b := 22) t14_19 (by decide)
  have t15_20 := vl_Mo (k := 22) (a := 20) (b := 22) t14_20 (by decide)
  have t15_21 := vl_Mo (k := 22) (a := 20) (b := 22) t14_21 (by decide)
  have t15_23 := vl_Mo (k := 22) (a := 20) (b := 22) t14_23 (by decide)
  have t15_22 := vl_M (k := 22) t14_20 t14_22
  have t16_17 := vl_Mo (k := 20) (a := 18) (b := 21) t15_17 (by decide)
  have t16_18 := vl_Mo (k := 20) (a := 18) (b := 21) t15_18 (by decide)
  have t16_19 := vl_Mo (k := 20) (a := 18) (b := 21) t15_19 (by decide)
  have t16_21 := vl_Mo (k := 20) (a := 18) (b := 21) t15_21 (by decide)
  have t16_22 := vl_Mo (k := 20) (a := 18) (b := 21) t15_22 (by decide)
  have t16_23 := vl_Mo (k := 20) (a := 18) (b := 21) t15_23 (by decide)
  have t16_20 := vl_M (k := 20) t15_18 t15_21
  have t17_17 := vl_Mo (k := 20) (a := 20) (b := 20) t16_17 (by decide)
  have t17_18 := vl_Mo (k := 20) (a := 20) (b := 20) t16_18 (by decide)
  have t17_19 := vl_Mo (k := 20) (a := 20) (b := 20) t16_19 (by decide)
  have t17_21 := vl_Mo (k := 20) (a := 20) (b := 20) t16_21 (by decide)
  have t17_22 := vl_Mo (k := 20) (a := 20) (b := 20) t16_22 (by decide)
  have t17_23 := vl_Mo (k := 20) (a := 20) (b := 20) t16_23 (by decide)
  have t17_20 := vl_M (k := 20) t16_20 t16_20
  have t18_17 := vl_Ao (k := 20) (a := 20) (b := 20) t17_17 (by decide)
  have t18_18 := vl_Ao (k := 20) (a := 20) (b := 20) t17_18 (by decide)
  have t18_19 := vl_Ao (k := 20) (a := 20) (b := 20) t17_19 (by decide)
  have t18_21 := vl_Ao (k := 20) (a := 20) (b := 20) t17_21 (by decide)
  have t18_22 := vl_Ao (k := 20) (a := 20) (b := 20) t17_22 (by decide)
  have t18_23 := vl_Ao (k := 20) (a := 20) (b := 20) t17_23 (by decide)
  have t18_20 := vl_A (k := 20) t17_20 t17_20
  have t19_17 := vl_Ao (k := 20) (a := 20) (b := 20) t18_17 (by decide)
  have t19_18 := vl_Ao (k := 20) (a := 20) (b := 20) t18_18 (by decide)
  have t19_19 := vl_Ao (k := 20) (a := 20) (b := 20) t18_19 (by decide)
  have t19_21 := vl_Ao (k := 20) (a := 20) (b := 20) t18_21 (by decide)
  have t19_22 := vl_Ao (k := 20) (a := 20) (b := 20) t18_22 (by decide)
  have t19_23 := vl_Ao (k := 20) (a := 20) (b := 20) t18_23 (by decide)
  have t19_20 := vl_A (k := 20) t18_20 t18_20
  have t20_17 := vl_Ao (k := 20) (a := 20) (b := 20) t19_17 (by decide)
  have t20_18 := vl_Ao (k := 20) (a := 20) (b := 20) t19_18 (by decide)
  have t20_19 := vl_Ao (k := 20) (a := 20) (b := 20) t19_19 (by decide)
  have t20_21 := vl_Ao (k := 20) (a := 20) (b := 20) t19_21 (by decide)
  have t20_22 := vl_Ao (k := 20) (a := 20) (b := 20) t19_22 (by decide)
  have t20_23 := vl_Ao (k := 20) (a := 20) (b := 20) t19_23 (by decide)
  have t20_20 := vl_A (k := 20) t19_20 t19_20
  have t21_17 := vl_So (k := 18) (a := 22) (b := 20) t20_17 (by decide)
  have t21_19 := vl_So (k := 18) (a := 22) (b := 20) t20_19 (by decide)
  have t21_20 := vl_So (k := 18) (a := 22) (b := 20) t20_20 (by decide)
  have t21_21 := vl_So (k := 18) (a := 22) (b := 20) t20_21 (by decide)
  have t21_22 := vl_So (k := 18) (a := 22) (b := 20) t20_22 (by decide)
  have t21_23 := vl_So (k := 18) (a := 22) (b := 20) t20_23 (by decide)
  have t21_18 := vl_S (k := 18) t20_22 t20_20
  have t22_18 := vl_Mo (k := 17) (a := 23) (b := 21) t21_18 (by decide)
  have t22_19 := vl_Mo (k := 17) (a := 23) (b := 21) t21_19 (by decide)
  have t22_20 := vl_Mo (k := 17) (a := 23) (b := 21) t21_20 (by decide)
  have t22_21 := vl_Mo (k := 17) (a := 23) (b := 21) t21_21 (by decide)
  have t22_22 := vl_Mo (k := 17) (a := 23) (b := 21) t21_22 (by decide)
  have t22_23 := vl_Mo (k := 17) (a := 23) (b := 21) t21_23 (by decide)
  have t22_17 := vl_M (k := 17) t21_23 t21_21
  have t23_18 := vl_Ao (k := 17) (a := 17) (b := 17) t22_18 (by decide)
  have t23_19 := vl_Ao (k := 17) (a := 17) (b := 17) t22_19 (by decide)
  have t23_20 := vl_Ao (k := 17) (a := 17) (b := 17) t22_20 (by decide)
  have t23_21 := vl_Ao (k := 17) (a := 17) (b := 17) t22_21 (by decide)
  have t23_22 := vl_Ao (k := 17) (a := 17) (b := 17) t22_22 (by decide)
  have t23_23 := vl_Ao (k := 17) (a := 17) (b := 17) t22_23 (by decide)
  have t23_17 := vl_A (k := 17) t22_17 t22_17
  have t24_17 := vl_Mo (k := 20) (a := 21) (b := 21) t23_17 (by decide)
  have t24_18 := vl_Mo (k := 20) (a := 21) (b := 21) t23_18 (by decide)
  have t24_19 := vl_Mo (k := 20) (a := 21) (b := 21) t23_19 (by decide)
  have t24_21 := vl_Mo (k := 20) (a := 21) (b := 21) t23_21 (by decide)
  have t24_22 := vl_Mo (k := 20) (a := 21) (b := 21) t23_22 (by decide)
  have t24_23 := vl_Mo (k := 20) (a := 21) (b := 21) t23_23 (by decide)
  have t24_20 := vl_M (k := 20) t23_21 t23_21
  have t25_17 := vl_Mo (k := 19) (a := 20) (b := 21) t24_17 (by decide)
  have t25_18 := vl_Mo (k := 19) (a := 20) (b := 21) t24_18 (by decide)
  have t25_20 := vl_Mo (k := 19) (a := 20) (b := 21) t24_20 (by decide)
  have t25_21 := vl_Mo (k := 19) (a := 20) (b := 21) t24_21 (by decide)
  have t25_22 := vl_Mo (k := 19) (a := 20) (b := 21) t24_22 (by decide)
  have t25_23 := vl_Mo (k := 19) (a := 20) (b := 21) t24_23 (by decide)
  have t25_19 := vl_M (k := 19) t24_20 t24_21
  have t26_17 := vl_Ao (k := 19) (a := 19) (b := 19) t25_17 (by decide)
  have t26_18 := vl_Ao (k := 19) (a := 19) (b := 19) t25_18 (by decide)
  have t26_20 := vl_Ao (k := 19) (a := 19) (b := 19) t25_20 (by decide)
  have t26_21 := vl_Ao (k := 19) (a := 19) (b := 19) t25_21 (by decide)
  have t26_22 := vl_Ao (k := 19) (a := 19) (b := 19) t25_22 (by decide)
  have t26_23 := vl_Ao (k := 19) (a := 19) (b := 19) t25_23 (by decide)
  have t26_19 := vl_A (k := 19) t25_19 t25_19
  have t27_17 := vl_Ao (k := 19) (a := 19) (b := 19) t26_17 (by decide)
  have t27_18 := vl_Ao (k := 19) (a := 19) (b := 19) t26_18 (by decide)
  have t27_20 := vl_Ao (k := 19) (a := 19) (b := 19) t26_20 (by decide)
  have t27_21 := vl_Ao (k := 19) (a := 19) (b := 19) t26_21 (by decide)
  have t27_22 := vl_Ao (k := 19) (a := 19) (b := 19) t26_22 (by decide)
  have t27_23 := vl_Ao (k := 19) (a := 19) (b := 19) t26_23 (by decide)
  have t27_19 := vl_A (k := 19) t26_19 t26_19
  have t28_17 := vl_Ao (k := 19) (a := 19) (b := 19) t27_17 (by decide)
  have t28_18 := vl_Ao (k := 19) (a := 19) (b := 19) t27_18 (by decide)
  have t28_20 := vl_Ao (k := 19) (a := 19) (b := 19) t27_20 (by decide)
  have t28_21 := vl_Ao (k := 19) (a := 19) (b := 19) t27_21 (by decide)
  have t28_22 := vl_Ao (k := 19) (a := 19) (b := 19) t27_22 (by decide)
  have t28_23 := vl_Ao (k := 19) (a := 19) (b := 19) t27_23 (by decide)
  have t28_19 := vl_A (k := 19) t27_19 t27_19
  exact ⟨t28_17, t28_18, t28_19⟩
theorem dblR_17 {F : Type} [Lean.Grind.CommRing F] (x17 x18 x19 : F) : (((((((((x17 * x17) - (x19 * x19)) + ((x17 * x17) - (x19 * x19))) + ((x17 * x17) - (x19 * x19))) * ((((x17 * x17) - (x19 * x19)) + ((x17 * x17) - (x19 * x19))) + ((x17 * x17) - (x19 * x19)))) - ((((x17 * x18) * (x18 * x19)) + ((x17 * x18) * (x18 * x19))) + (((x17 * x18) * (x18 * x19)) + ((x17 * x18) * (x18 * x19))))) - ((((x17 * x18) * (x18 * x19)) + ((x17 * x18) * (x18 * x19))) + (((x17 * x18) * (x18 * x19)) + ((x17 * x18) * (x18 * x19))))) * (x18 * x19)) + ((((((((x17 * x17) - (x19 * x19)) + ((x17 * x17) - (x19 * x19))) + ((x17 * x17) - (x19 * x19))) * ((((x17 * x17) - (x19 * x19)) + ((x17 * x17) - (x19 * x19))) + ((x17 * x17) - (x19 * x19)))) - ((((x17 * x18) * (x18 * x19)) + ((x17 * x18) * (x18 * x19))) + (((x17 * x18) * (x18 * x19)) + ((x17 * x18) * (x18 * x19))))) - ((((x17 * x18) * (x18 * x19)) + ((x17 * x18) * (x18 * x19))) + (((x17 * x18) * (x18 * x19)) + ((x17 * x18) * (x18 * x19))))) * (x18 * x19))) = 2 * ((3 * (x17 * x17 - x19 * x19) * (3 * (x17 * x17 - x19 * x19)) - 4 * (x17 * x18 * (x18 * x19)) - 4 * (x17 * x18 * (x18 * x19))) * (x18 * x19)) := by grind
theorem dblR_18 {F : Type} [Lean.Grind.CommRing F] (x17 x18 x19 : F) : ((((((x17 * x17) - (x19 * x19)) + ((x17 * x17) - (x19 * x19))) + ((x17 * x17) - (x19 * x19))) * (((((x17 * x18) * (x18 * x19)) + ((x17 * x18) * (x18 * x19))) + (((x17 * x18) * (x18 * x19)) + ((x17 * x18) * (x18 * x19)))) - (((((((x17 * x17) - (x19 * x19)) + ((x17 * x17) - (x19 * x19))) + ((x17 * x17) - (x19 * x19))) * ((((x17 * x17) - (x19 * x19)) + ((x17 * x17) - (x19 * x19))) + ((x17 * x17) - (x19 * x19)))) - ((((x17 * x18) * (x18 * x19)) + ((x17 * x18) * (x18 * x19))) + (((x17 * x18) * (x18 * x19)) + ((x17 * x18) * (x18 * x19))))) - ((((x17 * x18) * (x18 * x19)) + ((x17 * x18) * (x18 * x19))) + (((x17 * x18) * (x18 * x19)) + ((x17 * x18) * (x18 * x19))))))) - (((((x18 * (x18 * x19)) * (x18 * (x18 * x19))) + ((x18 * (x18 * x19)) * (x18 * (x18 * x19)))) + (((x18 * (x18 * x19)) * (x18 * (x18 * x19))) + ((x18 * (x18 * x19)) * (x18 * (x18 * x19))))) + ((((x18 * (x18 * x19)) * (x18 * (x18 * x19))) + ((x18 * (x18 * x19)) * (x18 * (x18 * x19)))) + (((x18 * (x18 * x19)) * (x18 * (x18 * x19))) + ((x18 * (x18 * x19)) * (x18 * (x18 * x19))))))) = 3 * (x17 * x17 - x19 * x19) * (4 * (x17 * x18 * (x18 * x19)) - (3 * (x17 * x17 - x19 * x19) * (3 * (x17 * x17 - x19 * x19)) - 4 * (x17 * x18 * (x18 * x19)) - 4 * (x17 * x18 * (x18 * x19)))) - 8 * (x18 * (x18 * x19) * (x18 * (x18 * x19))) := by grind
theorem dblR_19 {F : Type} [Lean.Grind.CommRing F] (x18 x19 : F) : ((((((x18 * x19) * (x18 * x19)) * (x18 * x19)) + (((x18 * x19) * (x18 * x19)) * (x18 * x19))) + ((((x18 * x19) * (x18 * x19)) * (x18 * x19)) + (((x18 * x19) * (x18 * x19)) * (x18 * x19)))) + (((((x18 * x19) * (x18 * x19)) * (x18 * x19)) + (((x18 * x19) * (x18 * x19)) * (x18 * x19))) + ((((x18 * x19) * (x18 * x19)) * (x18 * x19)) + (((x18 * x19) * (x18 * x19)) * (x18 * x19))))) = 8 * (x18 * x19 * (x18 * x19) * (x18 * x19)) := by grind
theorem dbl_ok {R : Nat → Nat} {P : PP} (h17 : R 17 < pP) (h18 : R 18 < pP) (h19 : R 19 < pP) (hP : OnP P) (h : PjR R P) : PjR (dblR R) (adP P P) := by
  obtain ⟨⟨e1, -⟩, ⟨e2, -⟩, ⟨e3, -⟩⟩ := dblR_v (R := R) ⟨rfl, h17⟩ ⟨rfl, h18⟩ ⟨rfl, h19⟩
  unfold PjR
  rw [e1, e2, e3, dblR_17, dblR_18, dblR_19]
  exact Pj_dbl hP h
