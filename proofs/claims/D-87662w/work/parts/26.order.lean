set_option maxRecDepth 100000
/-! THE ORDER of the base point -/
def gxN : Nat := 26247035095799689268623156744566981891852923491109213387815615900925518854738050089022388053975719786650872476732087
def gyN : Nat := 8325710961489029985546751289520108179287853048861315594709205902480503199884419224438643760392947333078086511627871
abbrev GP : PP := some (fp gxN, fp gyN)
theorem GP_on : OnP GP := by
  show fp gyN * fp gyN = fp gxN * fp gxN * fp gxN - 3 * fp gxN + BP
  have e : fp (gxN * gxN * gxN + (pP - 3 * gxN % pP) + bP) = fp gxN * fp gxN * fp gxN - 3 * fp gxN + BP := by
    rw [fp_add, fp_sub (by have := Nat.mod_lt (3 * gxN) pP_pos; omega), fp_mod, fp_mul, fp_mul, fp_mul, fp_3]
  rw [← e, ← fp_mul, fp_eq]
  decide +kernel
theorem ro1 {F : Type} [Lean.Grind.CommRing F] {y : F} : 2 * (y * 0) = 0 := by grind
theorem ro2 {F : Type} [Lean.Grind.CommRing F] (x y : F) : x + -y = x - y := by grind
theorem ro3 {F : Type} [Lean.Grind.CommRing F] {Y Z : F} : 2 * (Y * Z) = (Y + Z) * (Y + Z) - Y * Y - Z * Z := by grind
theorem ro4 {F : Type} [Lean.Grind.CommRing F] {x : F} : x = x * (1 * 1) := by grind
theorem ro5 {F : Type} [Lean.Grind.CommRing F] {x : F} : x = x * (1 * 1 * 1) := by grind
theorem ro6 {F : Type} [Lean.Grind.CommRing F] {a X Z : F} : a * (Z * Z) + -X = a * (Z * Z) - X * (1 * 1) := by grind
theorem ro7 {F : Type} [Lean.Grind.CommRing F] {a X Z : F} : a * (Z * Z * Z) + -X = a * (Z * Z * Z) - X * (1 * 1 * 1) := by grind
theorem ro8 {F : Type} [Lean.Grind.CommRing F] {x : F} : x * (1 * 1) = x := by grind
theorem ro9 {F : Type} [Lean.Grind.CommRing F] {x : F} : x * (1 * 1 * 1) = x := by grind
theorem ro10 {F : Type} [Lean.Grind.CommRing F] {x e : F} : x * 1 * e = x * e := by grind
def ngN (x : Nat) : Nat := pP - x % pP
theorem fp_ng (x : Nat) : fp (ngN x) = -fp x := by
  unfold ngN
  rw [fp_neg (by have := Nat.mod_lt x pP_pos; omega), fp_mod]
/-- twice -/
def jdN (P : T3) : T3 :=
  let zz := P.2.2 * P.2.2 % pP
  let yy := P.2.1 * P.2.1 % pP
  let e := 3 * ((P.1 + ngN zz) * (P.1 + zz)) % pP
  let d := 4 * (P.1 * yy) % pP
  let x := (e * e + ngN d + ngN d) % pP
  (x, (e * (d + ngN x) + ngN (8 * (yy * yy))) % pP, 2 * (P.2.1 * P.2.2) % pP)
/-- with the base point -/
def jaN (P : T3) : T3 :=
  if P.2.2 % pP = 0 then (gxN, gyN, 1) else
  let zz := P.2.2 * P.2.2 % pP
  let e := (gxN * zz + ngN P.1) % pP
  let g := (gyN * (zz * P.2.2) + ngN P.2.1) % pP
  if e = 0 then (if g = 0 then jdN P else (1, 1, 0)) else
  let ee := e * e % pP
  let d := P.1 * ee % pP
  let i := e * ee % pP
  let x := (g * g + ngN i + ngN d + ngN d) % pP
  (x, (g * (d + ngN x) + ngN (P.2.1 * i)) % pP, P.2.2 * e % pP)
def jm (k : Nat) : Nat → T3
  | 0 => (1, 1, 0)
  | i + 1 => if k / 2 ^ (383 - i) % 2 = 1 then jaN (jdN (jm k i)) else jdN (jm k i)
def JcN (P : T3) (Q : PP) : Prop := Jc (fp P.1) (fp P.2.1) (fp P.2.2) Q
theorem fp_4 : fp 4 = 4 := rfl
theorem fp_8 : fp 8 = 8 := rfl
theorem jdN_ok {P : T3} {Q : PP} (hQ : OnP Q) (h : JcN P Q) : JcN (jdN P) (adP Q Q) := by
  by_cases h0 : fp P.2.2 = 0
  · have hn : Q = none := by
      match Q, h with
      | none, _ => rfl
      | some q, h => exact absurd h0 h.1
    subst hn
    show fp (2 * (P.2.1 * P.2.2) % pP) = 0
    rw [fp_mod, fp_mul, fp_mul, h0]
    exact ro1
  · have k := Jc_dbl hQ h h0
    unfold JcN jdN
    simp only [fp_mod, fp_add, fp_mul, fp_ng, fp_2, fp_3, fp_4, fp_8]
    simp only [ro2]
    rw [ro3]
    exact k
theorem JcG : JcN (gxN, gyN, 1) GP := by
  refine ⟨by decide +kernel, ?_, ?_⟩
  · show fp gxN = fp gxN * (fp 1 * fp 1)
    rw [fp_1]
    exact ro4
  · show fp gyN = fp gyN * (fp 1 * fp 1 * fp 1)
    rw [fp_1]
    exact ro5
theorem fp_z {n : Nat} : n % pP = 0 ↔ fp n = 0 := by
  rw [fp_zero]
  exact ⟨Nat.dvd_of_mod_eq_zero, Nat.mod_eq_zero_of_dvd⟩
theorem jaN_ok {P : T3} {Q : PP} (hQ : OnP Q) (h : JcN P Q) : JcN (jaN P) (adP Q GP) := by
  unfold jaN
  by_cases h0 : P.2.2 % pP = 0
  · rw [if_pos h0]
    have hz := fp_z.mp h0
    have hn : Q = none := by
      match Q, h with
      | none, _ => rfl
      | some q, h => exact absurd hz h.1
    subst hn
    exact JcG
  · rw [if_neg h0]
    have hz : fp P.2.2 ≠ 0 := fun z => h0 (fp_z.mpr z)
    have z1 : fp 1 ≠ 0 := by decide +kernel
    have eE : fp ((gxN * (P.2.2 * P.2.2 % pP) + ngN P.1) % pP) = fp gxN * (fp P.2.2 * fp P.2.2) - fp P.1 * (fp 1 * fp 1) := by
      simp only [fp_mod, fp_add, fp_mul, fp_ng, fp_1]
      exact ro6
    have eG : fp ((gyN * (P.2.2 * P.2.2 % pP * P.2.2) + ngN P.2.1) % pP) = fp gyN * (fp P.2.2 * fp P.2.2 * fp P.2.2) - fp P.2.1 * (fp 1 * fp 1 * fp 1) := by
      simp only [fp_mod, fp_add, fp_mul, fp_ng, fp_1]
      exact ro7
    have mE : (gxN * (P.2.2 * P.2.2 % pP) + ngN P.1) % pP % pP = (gxN * (P.2.2 * P.2.2 % pP) + ngN P.1) % pP := Nat.mod_mod _ _
    have mG : (gyN * (P.2.2 * P.2.2 % pP * P.2.2) + ngN P.2.1) % pP % pP = (gyN * (P.2.2 * P.2.2 % pP * P.2.2) + ngN P.2.1) % pP := Nat.mod_mod _ _
    dsimp only
    generalize (gxN * (P.2.2 * P.2.2 % pP) + ngN P.1) % pP = e at *
    generalize (gyN * (P.2.2 * P.2.2 % pP * P.2.2) + ngN P.2.1) % pP = g at *
    by_cases he : e = 0
    · rw [if_pos he]
      have he2 : fp gxN * (fp P.2.2 * fp P.2.2) - fp P.1 * (fp 1 * fp 1) = 0 := by rw [← eE, he]; rfl
      obtain ⟨k1, k2⟩ := Jc_same hQ GP_on h JcG hz z1 he2
      by_cases hg : g = 0
      · rw [if_pos hg]
        have := k1 (by rw [← eG, hg]; rfl)
        rw [← this]
        exact jdN_ok hQ h
      · rw [if_neg hg]
        have := k2 (fun z => hg (by rw [← mG]; exact fp_z.mpr (by rw [eG]; exact z)))
        rw [this]
        rfl
    · rw [if_neg he]
      have he2 : fp gxN * (fp P.2.2 * fp P.2.2) - fp P.1 * (fp 1 * fp 1) ≠ 0 := fun z => he (by rw [← mE]; exact fp_z.mpr (by rw [eE]; exact z))
      have k := Jc_add (P := Q) (Q := GP) h JcG hz z1 he2 (fp P.1 * (fp 1 * fp 1)) _ (fp P.2.1 * (fp 1 * fp 1 * fp 1)) _ _ rfl rfl rfl rfl rfl
      rw [← eE, ← eG] at k
      unfold JcN
      simp only [fp_mod, fp_add, fp_mul, fp_ng]
      simp only [ro2]
      rw [fp_1, ro8, ro9, ro10] at k
      exact k
theorem jm_ok (k i : Nat) : JcN (jm k i) (mB k GP i) ∧ OnP (mB k GP i) := by
  induction i with
  | zero => exact ⟨rfl, on_none⟩
  | succ i ih =>
    obtain ⟨h1, h2⟩ := ih
    have d1 := jdN_ok h2 h1
    have d2 := ad_on h2 h2
    show JcN (if k / 2 ^ (383 - i) % 2 = 1 then jaN (jdN (jm k i)) else jdN (jm k i)) (if k / 2 ^ (383 - i) % 2 = 1 then adP (adP (mB k GP i) (mB k GP i)) GP else adP (mB k GP i) (mB k GP i)) ∧ OnP (if k / 2 ^ (383 - i) % 2 = 1 then adP (adP (mB k GP i) (mB k GP i)) GP else adP (mB k GP i) (mB k GP i))
    split
    · exact ⟨jaN_ok d2 d1, ad_on d2 GP_on⟩
    · exact ⟨d1, d2⟩
theorem jm_q : (jm qP 384).2.2 % pP = 0 := by decide +kernel
theorem jm_none {k i : Nat} (hz : (jm k i).2.2 % pP = 0) : mB k GP i = none := by
  have h := (jm_ok k i).1
  have hz := fp_z.mp hz
  generalize mB k GP i = Q at *
  match Q, h with
  | none, _ => rfl
  | some q, h => exact absurd hz h.1
theorem mP_of_jm {k : Nat} (hk : k < 2 ^ 384) {i : Nat} (hi : i = 384) (hz : (jm k i).2.2 % pP = 0) : mP k GP = none := by
  rw [← mB_all GP_on hk, ← hi]
  exact jm_none hz
theorem q_G : mP qP GP = none := mP_of_jm (by decide +kernel) rfl jm_q
theorem k_G {k : Nat} (h0 : 0 < k) (hk : k < qP) : mP k GP ≠ none := by
  intro h
  -- the least common measure of k and q is 1
  have key : ∀ m n : Nat, mP m GP = none → mP n GP = none → mP (Nat.gcd m n) GP = none := by
    intro m n
    induction m, n using Nat.gcd.induction with
    | H0 n => intro _ hh; rw [Nat.gcd_zero_left]; exact hh
    | H1 m n hm ih =>
      intro h1 h2
      rw [Nat.gcd_rec]
      refine ih ?_ h1
      have e : mP n GP = adP (mP (n / m) (mP m GP)) (mP (n % m) GP) := by
        rw [← mP_mul GP_on, ← mP_add GP_on]
        congr 1
        rw [Nat.mul_comm]
        exact (Nat.div_add_mod n m).symm
      rw [h1, mP_none, h2] at e
      exact e.symm
  have hg : Nat.gcd qP k = 1 := prQ.cop fun hd => by
    have := Nat.le_of_dvd h0 hd
    omega
  have h1 := key qP k q_G h
  rw [hg] at h1
  cases h1
