set_option maxRecDepth 100000
/-! THE FIELD of the curve's modulus -/
def pM : Nat := 39402006196394479212279040100143613805079739270465446667948293404245721771496870329047266088258938001861606973112318
abbrev Fp : Type := Fin (pM + 1)
theorem pP_eq : pM + 1 = pP := by decide +kernel
theorem pP_pos : 0 < pP := by decide +kernel
theorem pP_lt : pP < 2 ^ (32 * 12) := by decide +kernel
theorem qP_lt : qP < 2 ^ (32 * 12) := by decide +kernel
theorem qP_pos : 0 < qP := by decide +kernel
def fp (n : Nat) : Fp := Fin.ofNat (pM + 1) n
theorem fp_val (n : Nat) : (fp n).val = n % pP := by rw [← pP_eq]; rfl
theorem fp_ext {a b : Fp} (h : a.val = b.val) : a = b := Fin.ext h
theorem fp_lt (x : Fp) : x.val < pP := Nat.lt_of_lt_of_eq x.isLt pP_eq
theorem fp_eq {a b : Nat} : fp a = fp b ↔ a % pP = b % pP := by
  constructor
  · intro h
    rw [← fp_val, ← fp_val, h]
  · intro h
    apply fp_ext
    rw [fp_val, fp_val, h]
theorem fp_inj {a b : Nat} (ha : a < pP) (hb : b < pP) (h : fp a = fp b) : a = b := by
  have := fp_eq.mp h
  rw [Nat.mod_eq_of_lt ha, Nat.mod_eq_of_lt hb] at this
  exact this
theorem fp_mod (n : Nat) : fp (n % pP) = fp n := fp_eq.mpr (Nat.mod_mod _ _)
theorem fp_self (x : Fp) : fp x.val = x := by
  apply fp_ext
  rw [fp_val, Nat.mod_eq_of_lt (fp_lt x)]
theorem fv_add (x y : Fp) : (x + y).val = (x.val + y.val) % pP := (Fin.val_add x y).trans (congrArg (fun m => (x.val + y.val) % m) pP_eq)
theorem fv_mul (x y : Fp) : (x * y).val = x.val * y.val % pP := (Fin.val_mul x y).trans (congrArg (fun m => (x.val * y.val) % m) pP_eq)
theorem fp_add (a b : Nat) : fp (a + b) = fp a + fp b := by
  apply fp_ext
  rw [fv_add, fp_val, fp_val, fp_val, ← Nat.add_mod]
theorem fp_mul (a b : Nat) : fp (a * b) = fp a * fp b := by
  apply fp_ext
  rw [fv_mul, fp_val, fp_val, fp_val, ← Nat.mul_mod]
theorem fp_0 : fp 0 = 0 := rfl
theorem fp_1 : fp 1 = 1 := rfl
theorem fp_2 : fp 2 = 2 := rfl
theorem fp_3 : fp 3 = 3 := rfl
theorem fp_p : fp pP = 0 := by
  apply fp_ext
  rw [fp_val, Nat.mod_self]
  rfl
theorem fp_zero {n : Nat} : fp n = 0 ↔ pP ∣ n := by
  rw [← fp_0, fp_eq, Nat.zero_mod]
  exact ⟨Nat.dvd_of_mod_eq_zero, Nat.mod_eq_zero_of_dvd⟩
theorem fp_sub {a b : Nat} (h : b ≤ pP) : fp (a + (pP - b)) = fp a - fp b := by
  have h1 : fp (a + (pP - b)) + fp b = fp a := by
    rw [← fp_add, show a + (pP - b) + b = a + pP by omega, fp_add, fp_p]
    grind
  rw [← h1]
  grind
theorem fp_neg {b : Nat} (h : b ≤ pP) : fp (pP - b) = -fp b := by
  have := fp_sub (a := 0) h
  rw [Nat.zero_add, fp_0] at this
  rw [this]
  grind
theorem fp_pow (a n : Nat) : fp (a ^ n) = fp a ^ n := by
  induction n with
  | zero => rw [Nat.pow_zero, fp_1, Lean.Grind.Semiring.pow_zero]
  | succ n ih => rw [Nat.pow_succ, fp_mul, ih, Lean.Grind.Semiring.pow_succ]
theorem fp_ne {x : Fp} (h : x ≠ 0) : ¬ pP ∣ x.val := fun hd => h (by rw [← fp_self x]; exact fp_zero.mpr hd)
theorem fp_dom (a b : Fp) (h : a * b = 0) : a = 0 ∨ b = 0 := by
  rw [← fp_self a, ← fp_self b, ← fp_mul, fp_zero] at h
  rcases prP.dvd_mul h with h1 | h1
  · left
    rw [← fp_self a]
    exact fp_zero.mpr h1
  · right
    rw [← fp_self b]
    exact fp_zero.mpr h1
theorem fp_fermat {x : Fp} (h : x ≠ 0) : x ^ (pP - 1) = 1 := by
  rw [← fp_self x, ← fp_pow, ← fp_1, fp_eq, fermat prP (fp_ne h)]
  decide +kernel
theorem fp_fermat1 (x : Fp) : x ^ pP = x := by
  rw [← fp_self x, ← fp_pow, fp_eq]
  exact fermat1 prP _
/-- sealed: nobody unfolds a power so high -/
noncomputable def ivP : Fp → Fp := Classical.choose (p := fun f : Fp → Fp => ∀ x, f x = x ^ (pP - 2)) ⟨_, fun _ => rfl⟩
theorem ivP_def (x : Fp) : ivP x = x ^ (pP - 2) := Classical.choose_spec (p := fun f : Fp → Fp => ∀ x, f x = x ^ (pP - 2)) ⟨_, fun _ => rfl⟩ x
theorem ivP_ok (x : Fp) (h : x ≠ 0) : x * ivP x = 1 := by
  rw [← fp_fermat h]
  have e : pP - 1 = (pP - 2) + 1 := by decide +kernel
  rw [e, Lean.Grind.Semiring.pow_succ]
  rw [ivP_def]
  exact Lean.Grind.CommSemiring.mul_comm _ _
theorem fp_inv_unique {x y : Fp} (h : x * y = 1) : y = ivP x := by
  have hx : x ≠ 0 := fun e => by
    subst e
    have h2 : (0 : Fp) = 1 := by rw [← h]; grind
    exact absurd h2 (by decide +kernel)
  have h1 := ivP_ok x hx
  have : y = y * (x * ivP x) := by rw [h1]; grind
  rw [this]
  generalize ivP x = z at *
  grind
def bP : Nat := 27580193559959705877849011840389048093056905856361568521428707301988689241309860865136260764883745107765439761230575
abbrev BP : Fp := fp bP
/-! no x has x x x - 3 x + B = 0: X to the p under that polynomial -/
abbrev T3 : Type := Nat × Nat × Nat
def mulf (a b : T3) : T3 :=
  ((a.1 * b.1 + (pP - bP) * (a.2.1 * b.2.2 + a.2.2 * b.2.1)) % pP,
   (a.1 * b.2.1 + a.2.1 * b.1 + 3 * (a.2.1 * b.2.2 + a.2.2 * b.2.1) + (pP - bP) * (a.2.2 * b.2.2)) % pP,
   (a.1 * b.2.2 + a.2.1 * b.2.1 + a.2.2 * b.1 + 3 * (a.2.2 * b.2.2)) % pP)
def pwf : Nat → Nat → T3
  | 0, _ => (1, 0, 0)
  | f + 1, e => if e % 2 = 0 then mulf (pwf f (e / 2)) (pwf f (e / 2)) else mulf (mulf (pwf f (e / 2)) (pwf f (e / 2))) (0, 1, 0)
def evf (x : Fp) (a : T3) : Fp := fp a.1 + fp a.2.1 * x + fp a.2.2 * (x * x)
theorem evf_mul {x : Fp} (hx : x * x * x - 3 * x + BP = 0) (a b : T3) : evf x (mulf a b) = evf x a * evf x b := by
  have hb : fp (pP - bP) = -BP := fp_neg (by decide +kernel)
  unfold evf mulf
  simp only [fp_mod, fp_add, fp_mul, hb, fp_3]
  generalize fp a.1 = a0
  generalize fp a.2.1 = a1
  generalize fp a.2.2 = a2
  generalize fp b.1 = b0
  generalize fp b.2.1 = b1
  generalize fp b.2.2 = b2
  have e : BP = 3 * x - x * x * x := by grind
  rw [e]
  grind
theorem rf1 {F : Type} [Lean.Grind.CommRing F] (x : F) : 1 + 0 * x + 0 * (x * x) = 1 := by grind
theorem rf2 {F : Type} [Lean.Grind.CommRing F] (x : F) : 0 + 1 * x + 0 * (x * x) = x := by grind
theorem evf_pw {x : Fp} (hx : x * x * x - 3 * x + BP = 0) (f : Nat) : ∀ e, e < 2 ^ f → evf x (pwf f e) = x ^ e := by
  induction f with
  | zero =>
    intro e he
    obtain rfl : e = 0 := by omega
    show fp 1 + fp 0 * x + fp 0 * (x * x) = x ^ 0
    rw [fp_1, fp_0, Lean.Grind.Semiring.pow_zero]
    exact rf1 x
  | succ f ih =>
    intro e he
    have h1 := ih (e / 2) (by rw [Nat.pow_succ] at he; omega)
    show evf x (if e % 2 = 0 then _ else _) = _
    by_cases h2 : e % 2 = 0
    · rw [if_pos h2, evf_mul hx, h1, ← Lean.Grind.Semiring.pow_add]
      congr 1
      omega
    · rw [if_neg h2, evf_mul hx, evf_mul hx, h1, ← Lean.Grind.Semiring.pow_add]
      have e1 : evf x (0, 1, 0) = x := by
        show fp 0 + fp 1 * x + fp 0 * (x * x) = x
        rw [fp_1, fp_0]
        exact rf2 x
      rw [e1, ← Lean.Grind.Semiring.pow_succ]
      congr 1
      omega
def tX : T3 := (8300902441410358810024883245706595788071887638472987429650051756787010122663664392654234716054658334410824607717835, 36451842499335230207230939190122359435795929611070366073564430331459357452117665764765104949638877581977396150453386, 15550551877492060201127078427218509008503925815996229619149120823729355824416602968196515686102139833725391182697242)
def vX : T3 := (23037766613497683937702734290281044719364893268180251583910224888989381657771069200037813904257325918671976092329602, 8235438212423615602427778915669574859600037698862346933589434399495169446996583974901273360826717582835190849638831, 12157362177932134139146813183752135342286725243554133716818896354380897714709611791313184492360272402950851405460538)
theorem tX_ok : pwf 384 pP = tX := by decide +kernel
theorem vX_ok : mulf vX (tX.1, tX.2.1 + (pP - 1), tX.2.2) = (1, 0, 0) := by decide +kernel
theorem no_root (x : Fp) : x * x * x - 3 * x + BP ≠ 0 := by
  intro hx
  have h1 := evf_pw hx 384 pP (by decide +kernel)
  rw [tX_ok, fp_fermat1] at h1
  have h2 := evf_mul hx vX (tX.1, tX.2.1 + (pP - 1), tX.2.2)
  rw [vX_ok] at h2
  have h3 : evf x (tX.1, tX.2.1 + (pP - 1), tX.2.2) = 0 := by
    have e : fp (tX.2.1 + (pP - 1)) = fp tX.2.1 - 1 := by rw [fp_sub (by decide +kernel), fp_1]
    show fp tX.1 + fp (tX.2.1 + (pP - 1)) * x + fp tX.2.2 * (x * x) = 0
    rw [e]
    unfold evf at h1
    generalize fp tX.1 = t0 at *
    generalize fp tX.2.1 = t1 at *
    generalize fp tX.2.2 = t2 at *
    grind
  rw [h3] at h2
  have h4 : evf x (1, 0, 0) = 1 := by
    show fp 1 + fp 0 * x + fp 0 * (x * x) = 1
    rw [fp_1, fp_0]
    exact rf1 x
  rw [h4] at h2
  have h5 : (1 : Fp) = 0 := by
    rw [h2]
    generalize evf x vX = z
    grind
  exact absurd h5 (by decide +kernel)
theorem FHp : FH Fp ivP BP := by
  refine ⟨fp_dom, ivP_ok, by decide +kernel, fun x y h hy => ?_⟩
  subst hy
  apply no_root x
  rw [← h]
  grind
