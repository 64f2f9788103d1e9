set_option maxRecDepth 100000
/-! MULTIPLES of a point -/
abbrev PP : Type := Option (Fp × Fp)
noncomputable def adP (P Q : PP) : PP := eAdd ivP P Q
abbrev OnP (P : PP) : Prop := OnC BP P
theorem ad_on {P Q : PP} (hP : OnP P) (hQ : OnP Q) : OnP (adP P Q) := eAdd_on FHp hP hQ
theorem ad_comm {P Q : PP} (hP : OnP P) (hQ : OnP Q) : adP P Q = adP Q P := eAdd_comm FHp hP hQ
theorem ad_assoc {P Q R : PP} (hP : OnP P) (hQ : OnP Q) (hR : OnP R) : adP (adP P Q) R = adP P (adP Q R) := eAdd_assoc FHp hP hQ hR
theorem ad_none (P : PP) : adP P none = P := eAdd_none ivP P
theorem none_ad (P : PP) : adP none P = P := rfl
theorem on_none : OnP none := trivial
noncomputable def mP : Nat → PP → PP
  | 0, _ => none
  | n + 1, P => adP (mP n P) P
theorem mP_on {P : PP} (hP : OnP P) (n : Nat) : OnP (mP n P) := by
  induction n with
  | zero => exact on_none
  | succ n ih => exact ad_on ih hP
theorem mP_none (n : Nat) : mP n none = none := by
  induction n with
  | zero => rfl
  | succ n ih =>
    show adP (mP n none) none = none
    rw [ad_none, ih]
theorem mP_1 (P : PP) : mP 1 P = P := rfl
theorem mP_add {P : PP} (hP : OnP P) (m n : Nat) : mP (m + n) P = adP (mP m P) (mP n P) := by
  induction n with
  | zero => exact (ad_none _).symm
  | succ n ih =>
    show adP (mP (m + n) P) P = adP (mP m P) (adP (mP n P) P)
    rw [ih, ad_assoc (mP_on hP m) (mP_on hP n) hP]
theorem mP_ad {P Q : PP} (hP : OnP P) (hQ : OnP Q) (n : Nat) : mP n (adP P Q) = adP (mP n P) (mP n Q) := by
  induction n with
  | zero => rfl
  | succ n ih =>
    show adP (mP n (adP P Q)) (adP P Q) = adP (adP (mP n P) P) (adP (mP n Q) Q)
    have a := mP_on hP n
    have b := mP_on hQ n
    rw [ih, ad_assoc a b (ad_on hP hQ), ← ad_assoc b hP hQ, ad_comm b hP, ad_assoc hP b hQ, ← ad_assoc a hP (ad_on b hQ)]
theorem mP_mul {P : PP} (hP : OnP P) (m n : Nat) : mP (m * n) P = mP m (mP n P) := by
  induction m with
  | zero => rw [Nat.zero_mul]; rfl
  | succ m ih =>
    show mP ((m + 1) * n) P = adP (mP m (mP n P)) (mP n P)
    rw [Nat.add_mul, Nat.one_mul, mP_add hP, ih]
theorem mP_swap {P : PP} (hP : OnP P) (m n : Nat) : mP m (mP n P) = mP n (mP m P) := by
  rw [← mP_mul hP, ← mP_mul hP, Nat.mul_comm]
/-- by bits, the highest of 384 first: i of them -/
noncomputable def mB (k : Nat) (P : PP) : Nat → PP
  | 0 => none
  | i + 1 => if k / 2 ^ (383 - i) % 2 = 1 then adP (adP (mB k P i) (mB k P i)) P else adP (mB k P i) (mB k P i)
theorem mB_eq {k : Nat} {P : PP} (hP : OnP P) (hk : k < 2 ^ 384) (i : Nat) (hi : i ≤ 384) : mB k P i = mP (k / 2 ^ (384 - i)) P := by
  induction i with
  | zero =>
    rw [Nat.div_eq_of_lt hk]
    rfl
  | succ i ih =>
    have h1 := ih (by omega)
    have e : k / 2 ^ (384 - i) = k / 2 ^ (383 - i) / 2 := by
      rw [Nat.div_div_eq_div_mul, ← Nat.pow_succ]
      congr 2
      omega
    show (if k / 2 ^ (383 - i) % 2 = 1 then adP (adP (mB k P i) (mB k P i)) P else adP (mB k P i) (mB k P i)) = _
    have e2 : 384 - (i + 1) = 383 - i := by omega
    rw [h1, ← mP_add hP, e, e2]
    generalize k / 2 ^ (383 - i) = z
    split
    · show mP (z / 2 + z / 2 + 1) P = _
      congr 1
      omega
    · congr 1
      omega
theorem mB_all {k : Nat} {P : PP} (hP : OnP P) (hk : k < 2 ^ 384) : mB k P 384 = mP k P := by
  rw [mB_eq hP hk 384 (Nat.le_refl _), Nat.sub_self, Nat.pow_zero, Nat.div_one]
/-! three coordinates: x over z z, y over z z z -/
def Jc (X Y Z : Fp) (P : PP) : Prop := match P with
  | none => Z = 0
  | some (x, y) => Z ≠ 0 ∧ X = x * (Z * Z) ∧ Y = y * (Z * Z * Z)
theorem rj1 {F : Type} [Lean.Grind.CommRing F] {w x x2 X : F} (h : X = x * w) (h2 : X = x2 * w) : w * (x - x2) = 0 := by
  have e : w * (x - x2) = x * w - x2 * w := by clear h h2; grind
  rw [e, ← h, ← h2]
  clear h h2 e
  grind
theorem rz14 {F : Type} [Lean.Grind.CommRing F] {w a : F} : w * (a - a) = 0 := by grind
theorem rj3 {F : Type} [Lean.Grind.CommRing F] {y : F} (h : y + y = 0) : 2 * y = 0 := by grind
theorem rj4 {F : Type} [Lean.Grind.CommRing F] {y Z : F} : (y * (Z * Z * Z) + Z) * (y * (Z * Z * Z) + Z) - y * (Z * Z * Z) * (y * (Z * Z * Z)) - Z * Z = 2 * y * (Z * Z * Z * Z) := by grind
theorem rj5 {F : Type} [Lean.Grind.CommRing F] {x Z e : F} (h : e = 3 * (x * x - 1)) : 3 * ((x * (Z * Z) - Z * Z) * (x * (Z * Z) + Z * Z)) = e * (Z * Z * Z * Z) := by
  subst h
  grind
theorem rj6 {F : Type} [Lean.Grind.CommRing F] {l x y Z : F} : l * (y + y) * (Z * Z * Z * Z) * (l * (y + y) * (Z * Z * Z * Z)) - 4 * (x * (Z * Z) * (y * (Z * Z * Z) * (y * (Z * Z * Z)))) - 4 * (x * (Z * Z) * (y * (Z * Z * Z) * (y * (Z * Z * Z)))) = (l * l - x - x) * (2 * y * (Z * Z * Z * Z) * (2 * y * (Z * Z * Z * Z))) := by grind
theorem rj7 {F : Type} [Lean.Grind.CommRing F] {l x y Z : F} : l * (y + y) * (Z * Z * Z * Z) * (4 * (x * (Z * Z) * (y * (Z * Z * Z) * (y * (Z * Z * Z)))) - (l * l - x - x) * (2 * y * (Z * Z * Z * Z) * (2 * y * (Z * Z * Z * Z)))) - 8 * (y * (Z * Z * Z) * (y * (Z * Z * Z)) * (y * (Z * Z * Z) * (y * (Z * Z * Z)))) = (l * (x - (l * l - x - x)) - y) * (2 * y * (Z * Z * Z * Z) * (2 * y * (Z * Z * Z * Z)) * (2 * y * (Z * Z * Z * Z))) := by grind
theorem rk1 {F : Type} [Lean.Grind.CommRing F] {x Z1 Z2 : F} : x * (Z1 * Z1) * (Z2 * Z2) = x * (Z1 * Z2 * (Z1 * Z2)) := by grind
theorem rk2 {F : Type} [Lean.Grind.CommRing F] {x Z1 Z2 : F} : x * (Z2 * Z2) * (Z1 * Z1) = x * (Z1 * Z2 * (Z1 * Z2)) := by grind
theorem rk3 {F : Type} [Lean.Grind.CommRing F] {y Z1 Z2 : F} : y * (Z1 * Z1 * Z1) * (Z2 * Z2 * Z2) = y * (Z1 * Z2 * (Z1 * Z2) * (Z1 * Z2)) := by grind
theorem rk4 {F : Type} [Lean.Grind.CommRing F] {y Z1 Z2 : F} : y * (Z2 * Z2 * Z2) * (Z1 * Z1 * Z1) = y * (Z1 * Z2 * (Z1 * Z2) * (Z1 * Z2)) := by grind
theorem rk5 {F : Type} [Lean.Grind.CommRing F] {a b w : F} : a * w - b * w = w * (a - b) := by grind
theorem rk6 {F : Type} [Lean.Grind.CommRing F] {l x1 x2 W : F} : W * W * W * (l * (x2 - x1)) * (W * W * W * (l * (x2 - x1))) - W * W * (x2 - x1) * (W * W * (x2 - x1) * (W * W * (x2 - x1))) - x1 * (W * W) * (W * W * (x2 - x1) * (W * W * (x2 - x1))) - x1 * (W * W) * (W * W * (x2 - x1) * (W * W * (x2 - x1))) = (l * l - x1 - x2) * (W * (W * W * (x2 - x1)) * (W * (W * W * (x2 - x1)))) := by grind
theorem rk7 {F : Type} [Lean.Grind.CommRing F] {l x1 x2 y1 W : F} : W * W * W * (l * (x2 - x1)) * (x1 * (W * W) * (W * W * (x2 - x1) * (W * W * (x2 - x1))) - (l * l - x1 - x2) * (W * (W * W * (x2 - x1)) * (W * (W * W * (x2 - x1))))) - y1 * (W * W * W) * (W * W * (x2 - x1) * (W * W * (x2 - x1) * (W * W * (x2 - x1)))) = (l * (x1 - (l * l - x1 - x2)) - y1) * (W * (W * W * (x2 - x1)) * (W * (W * W * (x2 - x1))) * (W * (W * W * (x2 - x1)))) := by grind
theorem nz2 {a b : Fp} (ha : a ≠ 0) (hb : b ≠ 0) : a * b ≠ 0 := fun h => by
  rcases fp_dom _ _ h with h | h
  · exact ha h
  · exact hb h
theorem cancelz {w a b : Fp} (hw : w ≠ 0) (h : w * (a - b) = 0) : a = b := by
  rcases fp_dom _ _ h with h | h
  · exact absurd h hw
  · exact rg12 h
theorem Jc.fun {X Y Z : Fp} {P Q : PP} (h1 : Jc X Y Z P) (h2 : Jc X Y Z Q) : P = Q := by
  match P, Q, h1, h2 with
  | none, none, _, _ => rfl
  | none, some q, h1, h2 => exact absurd h1 h2.1
  | some p, none, h1, h2 => exact absurd h2 h1.1
  | some (x, y), some (x2, y2), h1, h2 =>
    obtain ⟨h0, hx, hy⟩ := h1
    obtain ⟨-, hx2, hy2⟩ := h2
    rw [cancelz (nz2 h0 h0) (rj1 hx hx2), cancelz (nz2 (nz2 h0 h0) h0) (rj1 hy hy2)]
theorem ad_self {x y : Fp} (h : y * y = gx x) : ∃ l, l * (y + y) = 3 * (x * x - 1) ∧ adP (some (x, y)) (some (x, y)) = some (l * l - x - x, l * (x - (l * l - x - x)) - y) := by
  have hy : y + y ≠ 0 := fun hh => by
    rcases fp_dom _ _ (rj3 hh) with h3 | h3
    · exact FHp.2.2.1 h3
    · exact FHp.2.2.2 x y h h3
  refine ⟨ivP (y + y) * (3 * (x * x - 1)), rg9 (ivP_ok _ hy), ?_⟩
  show eAdd ivP (some (x, y)) (some (x, y)) = _
  unfold eAdd
  simp only
  rw [if_pos trivial, if_neg hy]
  rfl
theorem ad_diff {x1 y1 x2 y2 : Fp} (h : x1 ≠ x2) : ∃ l, l * (x2 - x1) = y2 - y1 ∧ adP (some (x1, y1)) (some (x2, y2)) = some (l * l - x1 - x2, l * (x1 - (l * l - x1 - x2)) - y1) := by
  have hx : x2 - x1 ≠ 0 := fun hh => h (rg12 hh).symm
  refine ⟨ivP (x2 - x1) * (y2 - y1), rg9 (ivP_ok _ hx), ?_⟩
  show eAdd ivP (some (x1, y1)) (some (x2, y2)) = _
  unfold eAdd
  simp only
  rw [if_neg h]
  rfl
theorem Jc_dbl {X Y Z : Fp} {P : PP} (hP : OnP P) (h : Jc X Y Z P) (h0 : Z ≠ 0) :
    Jc ((3 * ((X - Z * Z) * (X + Z * Z))) * (3 * ((X - Z * Z) * (X + Z * Z))) - 4 * (X * (Y * Y)) - 4 * (X * (Y * Y)))
      (3 * ((X - Z * Z) * (X + Z * Z)) * (4 * (X * (Y * Y)) - ((3 * ((X - Z * Z) * (X + Z * Z))) * (3 * ((X - Z * Z) * (X + Z * Z))) - 4 * (X * (Y * Y)) - 4 * (X * (Y * Y)))) - 8 * (Y * Y * (Y * Y)))
      ((Y + Z) * (Y + Z) - Y * Y - Z * Z) (adP P P) := by
  match P, hP, h with
  | none, _, h => exact absurd h h0
  | some (x, y), hP, h =>
    obtain ⟨-, hx, hy⟩ := h
    obtain ⟨l, hl, e⟩ := ad_self hP
    rw [e]
    have hy0 : y ≠ 0 := FHp.2.2.2 x y hP
    subst hx
    subst hy
    rw [rj4, rj5 hl, rj6, rj7]
    exact ⟨nz2 (nz2 FHp.2.2.1 hy0) (nz2 (nz2 (nz2 h0 h0) h0) h0), rfl, rfl⟩
theorem Jc_add {X1 Y1 Z1 X2 Y2 Z2 : Fp} {P Q : PP} (h1 : Jc X1 Y1 Z1 P) (h2 : Jc X2 Y2 Z2 Q) (z1 : Z1 ≠ 0) (z2 : Z2 ≠ 0) (he : X2 * (Z1 * Z1) - X1 * (Z2 * Z2) ≠ 0) (D E F G I : Fp)
    (hD : D = X1 * (Z2 * Z2)) (hE : E = X2 * (Z1 * Z1) - D) (hF : F = Y1 * (Z2 * Z2 * Z2)) (hG : G = Y2 * (Z1 * Z1 * Z1) - F) (hI : I = E * (E * E)) :
    Jc (G * G - I - D * (E * E) - D * (E * E)) (G * (D * (E * E) - (G * G - I - D * (E * E) - D * (E * E))) - F * I) (Z1 * Z2 * E) (adP P Q) := by
  match P, Q, h1, h2 with
  | none, _, h1, _ => exact absurd h1 z1
  | some p, none, _, h2 => exact absurd h2 z2
  | some (x1, y1), some (x2, y2), h1, h2 =>
    obtain ⟨-, a1, a2⟩ := h1
    obtain ⟨-, b1, b2⟩ := h2
    subst a1
    subst a2
    subst b1
    subst b2
    rw [rk1] at hD
    rw [rk2, hD, rk5] at hE
    rw [rk3] at hF
    rw [rk4, hF, rk5] at hG
    rw [rk2 (x := x2) (Z1 := Z1) (Z2 := Z2), rk1 (x := x1) (Z1 := Z1) (Z2 := Z2), rk5] at he
    have hne : x1 ≠ x2 := fun h => he (by rw [h]; exact rz14)
    obtain ⟨l, hl, e⟩ := ad_diff (y1 := y1) (y2 := y2) hne
    rw [e]
    rw [← hl] at hG
    subst hI
    subst hD
    subst hE
    subst hF
    subst hG
    rw [rk6, rk7]
    exact ⟨nz2 (nz2 z1 z2) he, rfl, rfl⟩
/-- when x is the same -/
theorem Jc_same {X1 Y1 Z1 X2 Y2 Z2 : Fp} {P Q : PP} (hP : OnP P) (hQ : OnP Q) (h1 : Jc X1 Y1 Z1 P) (h2 : Jc X2 Y2 Z2 Q) (z1 : Z1 ≠ 0) (z2 : Z2 ≠ 0) (he : X2 * (Z1 * Z1) - X1 * (Z2 * Z2) = 0) :
    (Y2 * (Z1 * Z1 * Z1) - Y1 * (Z2 * Z2 * Z2) = 0 → P = Q) ∧ (Y2 * (Z1 * Z1 * Z1) - Y1 * (Z2 * Z2 * Z2) ≠ 0 → adP P Q = none) := by
  match P, Q, hP, hQ, h1, h2 with
  | none, _, _, _, h1, _ => exact absurd h1 z1
  | some p, none, _, _, _, h2 => exact absurd h2 z2
  | some (x1, y1), some (x2, y2), hP, hQ, h1, h2 =>
    obtain ⟨-, a1, a2⟩ := h1
    obtain ⟨-, b1, b2⟩ := h2
    subst a1
    subst a2
    subst b1
    subst b2
    have zz := nz2 z1 z2
    rw [rk2 (x := x2) (Z1 := Z1) (Z2 := Z2), rk1 (x := x1) (Z1 := Z1) (Z2 := Z2), rk5] at he
    have hx : x2 = x1 := cancelz (nz2 zz zz) he
    subst hx
    have hyy : y1 * y1 = y2 * y2 := hP.trans hQ.symm
    rw [rk4 (y := y2) (Z1 := Z1) (Z2 := Z2), rk3 (y := y1) (Z1 := Z1) (Z2 := Z2), rk5]
    constructor
    · intro h
      rw [cancelz (nz2 (nz2 zz zz) zz) h]
    · intro h
      rcases sq_eq hyy with h3 | h3
      · exfalso
        apply h
        rw [h3]
        exact rz14
      · exact eAdd_inv rfl (by rw [h3]; exact rg27)
