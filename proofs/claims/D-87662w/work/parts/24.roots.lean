set_option maxRecDepth 100000
/-! ROOTS, and the map of a number to the curve -/
section RZ
theorem rz1 {F : Type} [Lean.Grind.CommRing F] {z : F} (h : z * z = 1) : (z - 1) * (z + 1) = 0 := by grind
theorem rz2 {F : Type} [Lean.Grind.CommRing F] {y z : F} (h : y + z = 0) : y = -z := by grind
theorem rz3 {F : Type} [Lean.Grind.CommRing F] {z : F} : (0 : F) * 0 * z = 0 * 0 := by grind
theorem rz4 {F : Type} [Lean.Grind.CommRing F] {z : F} : z * 1 = z := by grind
theorem rz5 {F : Type} [Lean.Grind.CommRing F] {z : F} : 0 * z = 0 := by grind
theorem rz8 {F : Type} [Lean.Grind.CommRing F] (b i : F) : b * i * (b * i) * (b * i) - 3 * (b * i) + b = i * b * (i * b) * (i * b) - 3 * (i * b) + b := by grind
theorem rz9 {F : Type} [Lean.Grind.CommRing F] {d i j b : F} (h1 : d * i = 1) (h3 : 3 * j = 1) : 3 * ((i + 1) * j * b) * d = b * (d + 1) := by
  have e : 3 * ((i + 1) * j * b) * d = 3 * j * b * (d * i + d) := by clear h1 h3; grind
  rw [e, h1, h3]
  clear h1 h3 e
  grind
theorem rz10 {F : Type} [Lean.Grind.CommRing F] {c x b : F} (e : 3 * x * (c * c + c) = b * (c * c + c + 1)) : c * x * (c * x) * (c * x) - 3 * (c * x) + b = c * c * c * (x * x * x - 3 * x + b) := by
  have e2 : c * x * (c * x) * (c * x) - 3 * (c * x) + b = c * c * c * (x * x * x - 3 * x + b) + (c - 1) * (3 * x * (c * c + c) - b * (c * c + c + 1)) := by clear e; grind
  rw [e2, e]
  clear e e2
  grind
theorem rz11 {F : Type} [Lean.Grind.CommRing F] {z : F} : z * (-1 * -1 * -1 * -1) = z := by grind
theorem rz12 {F : Type} [Lean.Grind.CommRing F] {z u : F} (h : u * u = 1) : z * (u * u) = z := by rw [h]; grind
theorem rz13 {F : Type} [Lean.Grind.CommRing F] {z : F} : z * (0 * 0) * (z * (0 * 0)) + z * (0 * 0) = 0 := by grind
end RZ
theorem fpow_add (a : Fp) (m n : Nat) : a ^ (m + n) = a ^ m * a ^ n := Lean.Grind.Semiring.pow_add a m n
theorem fpow_mul (a b : Fp) (n : Nat) : (a * b) ^ n = a ^ n * b ^ n := Lean.Grind.CommSemiring.mul_pow a b n
def hP : Nat := (pP - 1) / 2
noncomputable def rt : Fp → Fp := Classical.choose (p := fun f : Fp → Fp => ∀ x, f x = x ^ ((pP + 1) / 4)) ⟨_, fun _ => rfl⟩
theorem rt_def (x : Fp) : rt x = x ^ ((pP + 1) / 4) := Classical.choose_spec (p := fun f : Fp → Fp => ∀ x, f x = x ^ ((pP + 1) / 4)) ⟨_, fun _ => rfl⟩ x
noncomputable def ph : Fp → Fp := Classical.choose (p := fun f : Fp → Fp => ∀ x, f x = x ^ hP) ⟨_, fun _ => rfl⟩
theorem ph_def (x : Fp) : ph x = x ^ hP := Classical.choose_spec (p := fun f : Fp → Fp => ∀ x, f x = x ^ hP) ⟨_, fun _ => rfl⟩ x
theorem hP_1 : hP + hP = pP - 1 := by decide +kernel
theorem ph_mul (a b : Fp) : ph (a * b) = ph a * ph b := by rw [ph_def, ph_def, ph_def, fpow_mul]
theorem ph_sq {a : Fp} (ha : a ≠ 0) : ph a * ph a = 1 := by rw [ph_def, ← fpow_add, hP_1, fp_fermat ha]
theorem rt_h (a : Fp) : rt a * rt a = a * ph a := by
  rw [rt_def, ph_def, ← fpow_add, show (pP + 1) / 4 + (pP + 1) / 4 = 1 + hP by decide +kernel, fpow_add, Lean.Grind.Semiring.pow_one]
theorem chi (a : Fp) (ha : a ≠ 0) : ph a = 1 ∨ ph a = -1 := by
  rcases fp_dom _ _ (rz1 (ph_sq ha)) with h | h
  · exact Or.inl (rg12 h)
  · exact Or.inr (rz2 h)
theorem rt_sq {a y : Fp} (h : y * y = a) : rt a * rt a = a := by
  rw [rt_h]
  by_cases h0 : y = 0
  · subst h0
    subst h
    exact rz3
  · rw [← h, ph_mul, ph_sq h0]
    exact rz4
theorem rt_no {a : Fp} (h : rt a * rt a ≠ a) : a ≠ 0 ∧ ph a = -1 := by
  rw [rt_h] at h
  have h0 : a ≠ 0 := fun e => by
    subst e
    exact h rz5
  refine ⟨h0, ?_⟩
  rcases chi a h0 with e | e
  · rw [e] at h
    exact absurd rz4 h
  · exact e
theorem sq_eq {y z : Fp} (h : y * y = z * z) : y = z ∨ y = -z := by
  rcases fp_dom _ _ (rg6 h) with h | h
  · exact Or.inl (rg12 h)
  · exact Or.inr (rz2 h)
def gx (x : Fp) : Fp := x * x * x - 3 * x + BP
abbrev zP : Fp := fp (pP - 12)
theorem zP_h : ph zP = -1 := by
  rw [ph_def]
  show fp (pP - 12) ^ hP = -1
  have e : (-1 : Fp) = fp (pP - 1) := by rw [fp_neg (by decide +kernel), fp_1]
  rw [← fp_pow, e, fp_eq, ← pw_eq _ _ 384 _ (by decide +kernel)]
  decide +kernel
/-- the first x of the map: c is z u u -/
noncomputable def x1P (c : Fp) : Fp := if c * c + c = 0 then ivP 36 * BP else (ivP (c * c + c) + 1) * ivP 3 * BP
def i36 : Nat := 1094500172122068867007751113892878161252214979735151296331897039006825604763801953584646280229414944496155749253120
def s36 : Nat := 37561047755030469683523571075854451141166426459879495640879726933488836242211037541742600528865780251189269636994147
theorem iv36 : ivP 36 = fp i36 := by
  symm
  apply fp_inv_unique
  show fp 36 * fp i36 = fp 1
  rw [← fp_mul, fp_eq]
  decide +kernel
theorem g36 : fp s36 * fp s36 = gx (ivP 36 * BP) := by
  rw [iv36]
  unfold gx
  have e : fp (bP * i36 * (bP * i36) * (bP * i36) + (pP - 3 * (bP * i36) % pP) + bP) = fp i36 * BP * (fp i36 * BP) * (fp i36 * BP) - 3 * (fp i36 * BP) + BP := by
    rw [fp_add, fp_sub (by have := Nat.mod_lt (3 * (bP * i36)) pP_pos; omega), fp_mod]
    simp only [fp_mul, fp_3]
    exact rz8 _ _
  rw [← e, ← fp_mul, fp_eq]
  decide +kernel
theorem x2_on {c x : Fp} (hd : c * c + c ≠ 0) (hx : x = (ivP (c * c + c) + 1) * ivP 3 * BP) : gx (c * x) = c * c * c * gx x := by
  have h1 := ivP_ok _ hd
  have h3 : (3 : Fp) * ivP 3 = 1 := ivP_ok 3 (by decide +kernel)
  have e : 3 * x * (c * c + c) = BP * (c * c + c + 1) := by
    rw [hx]
    exact rz9 h1 h3
  exact rz10 e
/-- the map: u's number, the point -/
noncomputable def mapP (u : Fp) : Fp × Fp :=
  if rt (gx (x1P (zP * (u * u)))) * rt (gx (x1P (zP * (u * u)))) = gx (x1P (zP * (u * u))) then (x1P (zP * (u * u)), rt (gx (x1P (zP * (u * u)))))
  else (zP * (u * u) * x1P (zP * (u * u)), rt (gx (zP * (u * u) * x1P (zP * (u * u)))))
theorem map2_on {u c : Fp} (hc : c = zP * (u * u)) (h : rt (gx (x1P c)) * rt (gx (x1P c)) ≠ gx (x1P c)) : rt (gx (c * x1P c)) * rt (gx (c * x1P c)) = gx (c * x1P c) := by
  by_cases hd : c * c + c = 0
  · exfalso
    apply h
    have e : x1P c = ivP 36 * BP := by unfold x1P; rw [if_pos hd]
    rw [e]
    exact rt_sq g36
  · have e : x1P c = (ivP (c * c + c) + 1) * ivP 3 * BP := by unfold x1P; rw [if_neg hd]
    obtain ⟨h0, h1⟩ := rt_no h
    have hu : u ≠ 0 := fun z => by
      subst z
      apply hd
      rw [hc]
      exact rz13
    have hcc : ph c = -1 := by
      rw [hc, ph_mul, zP_h, ph_mul]
      exact rz12 (ph_sq hu)
    rw [x2_on hd e, rt_h, ph_mul, ph_mul, ph_mul, hcc, h1]
    exact rz11
theorem map_on (u : Fp) : (mapP u).2 * (mapP u).2 = gx (mapP u).1 := by
  by_cases h : rt (gx (x1P (zP * (u * u)))) * rt (gx (x1P (zP * (u * u)))) = gx (x1P (zP * (u * u)))
  · have e : mapP u = (x1P (zP * (u * u)), rt (gx (x1P (zP * (u * u))))) := if_pos h
    rw [e]
    exact h
  · have e : mapP u = (zP * (u * u) * x1P (zP * (u * u)), rt (gx (zP * (u * u) * x1P (zP * (u * u))))) := if_neg h
    rw [e]
    exact map2_on rfl h
