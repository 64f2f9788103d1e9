set_option maxRecDepth 100000
/-! PRIMES: Fermat, Pocklington -/
def Pr (n : Nat) : Prop := 2 ≤ n ∧ ∀ d, d ∣ n → d = 1 ∨ d = n
theorem Pr.cop {p a : Nat} (h : Pr p) (ha : ¬ p ∣ a) : Nat.Coprime p a := by
  rcases h.2 _ (Nat.gcd_dvd_left p a) with e | e
  · exact e
  · exact absurd (e ▸ Nat.gcd_dvd_right p a) ha
theorem Pr.dvd_mul {p a b : Nat} (h : Pr p) (hd : p ∣ a * b) : p ∣ a ∨ p ∣ b := by
  by_cases ha : p ∣ a
  · exact Or.inl ha
  · exact Or.inr ((h.cop ha).dvd_of_dvd_mul_left hd)
theorem exists_pr (n : Nat) (h : 2 ≤ n) : ∃ d, Pr d ∧ d ∣ n := by
  induction n using Nat.strongRecOn with
  | _ n ih =>
    by_cases hp : Pr n
    · exact ⟨n, hp, Nat.dvd_refl n⟩
    · have hx : ∃ d, d ∣ n ∧ d ≠ 1 ∧ d ≠ n := by
        apply Classical.byContradiction
        intro hc
        exact hp ⟨h, fun d hd => by
          apply Classical.byContradiction
          intro h2
          exact hc ⟨d, hd, fun e => h2 (Or.inl e), fun e => h2 (Or.inr e)⟩⟩
      obtain ⟨d, hd, h1, h2⟩ := hx
      have hle := Nat.le_of_dvd (by omega) hd
      have h0 : d ≠ 0 := fun e => by
        subst e
        have := Nat.eq_zero_of_zero_dvd hd
        omega
      obtain ⟨r, hr, hrd⟩ := ih d (by omega) (by omega)
      exact ⟨r, hr, Nat.dvd_trans hrd hd⟩
/-- binomial numbers -/
def ch : Nat → Nat → Nat
  | _, 0 => 1
  | 0, _ + 1 => 0
  | n + 1, k + 1 => ch n k + ch n (k + 1)
theorem ch_0 (n : Nat) : ch n 0 = 1 := by cases n <;> rfl
theorem ch_s (n k : Nat) : ch (n + 1) (k + 1) = ch n k + ch n (k + 1) := rfl
theorem ch_gt (n : Nat) : ∀ k, n < k → ch n k = 0 := by
  induction n with
  | zero =>
    intro k hk
    cases k with
    | zero => omega
    | succ k => rfl
  | succ n ih =>
    intro k hk
    cases k with
    | zero => omega
    | succ k => rw [ch_s, ih k (by omega), ih (k + 1) (by omega)]
theorem ch_self (n : Nat) : ch n n = 1 := by
  induction n with
  | zero => rfl
  | succ n ih => rw [ch_s, ih, ch_gt n (n + 1) (by omega)]
theorem ch_abs (n : Nat) : ∀ k, (k + 1) * ch (n + 1) (k + 1) = (n + 1) * ch n k := by
  induction n with
  | zero =>
    intro k
    cases k with
    | zero => rfl
    | succ k => rw [ch_s, ch_gt 0 (k + 1) (by omega), ch_gt 0 (k + 1 + 1) (by omega)]; simp
  | succ n ih =>
    intro k
    cases k with
    | zero =>
      have h := ih 0
      rw [ch_0] at h
      rw [ch_s, ch_0, Nat.mul_add, h]
      omega
    | succ k =>
      have h1 := ih k
      have h2 := ih (k + 1)
      rw [ch_s (n + 1) (k + 1), Nat.mul_add, h2]
      have e : (k + 1 + 1) * ch (n + 1) (k + 1) = (k + 1) * ch (n + 1) (k + 1) + ch (n + 1) (k + 1) := by rw [Nat.add_mul (k + 1) 1, Nat.one_mul]
      rw [e, h1]
      have e2 : (n + 1 + 1) * ch (n + 1) (k + 1) = (n + 1) * ch (n + 1) (k + 1) + ch (n + 1) (k + 1) := by rw [Nat.add_mul (n + 1) 1, Nat.one_mul]
      rw [e2]
      have e3 : (n + 1) * ch (n + 1) (k + 1) = (n + 1) * ch n k + (n + 1) * ch n (k + 1) := by rw [ch_s, Nat.mul_add]
      omega
def sm : Nat → (Nat → Nat) → Nat
  | 0, _ => 0
  | n + 1, f => sm n f + f n
theorem sm_shift (n : Nat) (f : Nat → Nat) : sm (n + 1) f = f 0 + sm n (fun k => f (k + 1)) := by
  induction n with
  | zero => show 0 + f 0 = f 0 + 0; omega
  | succ n ih =>
    show sm (n + 1) f + f (n + 1) = f 0 + (sm n (fun k => f (k + 1)) + f (n + 1))
    rw [ih]
    omega
theorem sm_add (n : Nat) (f g : Nat → Nat) : sm n (fun k => f k + g k) = sm n f + sm n g := by
  induction n with
  | zero => rfl
  | succ n ih =>
    show sm n (fun k => f k + g k) + (f n + g n) = sm n f + f n + (sm n g + g n)
    rw [ih]
    omega
theorem sm_mul (n a : Nat) (f : Nat → Nat) : sm n (fun k => a * f k) = a * sm n f := by
  induction n with
  | zero => rfl
  | succ n ih =>
    show sm n (fun k => a * f k) + a * f n = a * (sm n f + f n)
    rw [ih, Nat.mul_add]
theorem sm_congr {n : Nat} {f g : Nat → Nat} (h : ∀ k, k < n → f k = g k) : sm n f = sm n g := by
  induction n with
  | zero => rfl
  | succ n ih =>
    show sm n f + f n = sm n g + g n
    rw [ih fun k hk => h k (by omega), h n (by omega)]
theorem sm_dvd {n p : Nat} {f : Nat → Nat} (h : ∀ k, k < n → p ∣ f k) : p ∣ sm n f := by
  induction n with
  | zero => exact Nat.dvd_zero p
  | succ n ih => exact Nat.dvd_add (ih fun k hk => h k (by omega)) (h n (by omega))
theorem binom (a n : Nat) : (a + 1) ^ n = sm (n + 1) (fun k => ch n k * a ^ k) := by
  induction n with
  | zero => rfl
  | succ n ih =>
    rw [sm_shift, ch_0, Nat.pow_zero, Nat.mul_one]
    have e1 : sm (n + 1) (fun k => ch (n + 1) (k + 1) * a ^ (k + 1)) = sm (n + 1) (fun k => a * (ch n k * a ^ k)) + sm (n + 1) (fun k => ch n (k + 1) * a ^ (k + 1)) := by
      rw [← sm_add]
      apply sm_congr
      intro k _
      rw [ch_s, Nat.add_mul, Nat.pow_succ, Nat.mul_comm (a ^ k) a]
      congr 1
      rw [Nat.mul_left_comm]
    have e2 : 1 + sm (n + 1) (fun k => ch n (k + 1) * a ^ (k + 1)) = sm (n + 1) (fun k => ch n k * a ^ k) := by
      have h1 := sm_shift (n + 1) (fun k => ch n k * a ^ k)
      have h2 : sm (n + 1 + 1) (fun k => ch n k * a ^ k) = sm (n + 1) (fun k => ch n k * a ^ k) + ch n (n + 1) * a ^ (n + 1) := rfl
      rw [ch_gt n (n + 1) (by omega), Nat.zero_mul, Nat.add_zero] at h2
      rw [h2, ch_0, Nat.pow_zero, Nat.mul_one] at h1
      exact h1.symm
    rw [e1, sm_mul, ← ih, Nat.pow_succ, Nat.mul_add, Nat.mul_one]
    rw [← ih] at e2
    rw [Nat.mul_comm]
    omega
theorem pr_ch {p k : Nat} (h : Pr p) (hk : 0 < k) (hkp : k < p) : p ∣ ch p k := by
  have e := ch_abs (p - 1) (k - 1)
  have h2 := h.1
  rw [show p - 1 + 1 = p by omega, show k - 1 + 1 = k by omega] at e
  have hd : p ∣ k * ch p k := ⟨_, e⟩
  rcases h.dvd_mul hd with h3 | h3
  · have := Nat.le_of_dvd hk h3
    omega
  · exact h3
theorem fermat1 {p : Nat} (h : Pr p) (a : Nat) : a ^ p % p = a % p := by
  have h2 := h.1
  induction a with
  | zero => rw [Nat.zero_pow (by omega)]
  | succ a ih =>
    have hm : p ∣ sm (p - 1) (fun k => ch p (k + 1) * a ^ (k + 1)) := sm_dvd fun k hk => Nat.dvd_trans (pr_ch h (by omega) (by omega)) (Nat.dvd_mul_right _ _)
    have e : (a + 1) ^ p = 1 + sm (p - 1) (fun k => ch p (k + 1) * a ^ (k + 1)) + a ^ p := by
      rw [binom, sm_shift, ch_0, Nat.pow_zero, Nat.mul_one]
      obtain ⟨q, rfl⟩ : ∃ q, p = q + 1 := ⟨p - 1, by omega⟩
      show 1 + (sm q _ + ch (q + 1) (q + 1) * a ^ (q + 1)) = _
      rw [ch_self, Nat.one_mul, Nat.add_sub_cancel, Nat.add_assoc]
    obtain ⟨c, hc⟩ := hm
    rw [e, hc, Nat.add_right_comm, Nat.add_mul_mod_self_left, Nat.add_mod, ih, ← Nat.add_mod, Nat.add_comm]
theorem fermat {p a : Nat} (h : Pr p) (ha : ¬ p ∣ a) : a ^ (p - 1) % p = 1 := by
  have h2 := h.1
  have h1 := fermat1 h a
  have hpos : 0 < a := Nat.pos_of_ne_zero fun e => ha (e ▸ Nat.dvd_zero p)
  have e : a ^ p = a * a ^ (p - 1) := by rw [Nat.mul_comm, ← Nat.pow_succ]; congr 1; omega
  have hp1 : 1 ≤ a ^ (p - 1) := Nat.pow_pos hpos
  have hd : p ∣ a * (a ^ (p - 1) - 1) := by
    rw [Nat.mul_sub, Nat.mul_one, ← e]
    exact Nat.dvd_of_mod_eq_zero (Nat.sub_mod_eq_zero_of_mod_eq h1)
  rcases h.dvd_mul hd with h3 | h3
  · exact absurd h3 ha
  · obtain ⟨c, hc⟩ := h3
    have : a ^ (p - 1) = 1 + p * c := by omega
    rw [this, Nat.add_mul_mod_self_left, Nat.mod_eq_of_lt (by omega)]
/-- a power under a modulus, by squaring -/
def pw (a N : Nat) : Nat → Nat → Nat
  | 0, _ => 1 % N
  | f + 1, e => if e % 2 = 0 then pw a N f (e / 2) ^ 2 % N else pw a N f (e / 2) ^ 2 * a % N
theorem pw_eq (a N f : Nat) : ∀ e, e < 2 ^ f → pw a N f e = a ^ e % N := by
  induction f with
  | zero =>
    intro e he
    obtain rfl : e = 0 := by omega
    rfl
  | succ f ih =>
    intro e he
    have h1 := ih (e / 2) (by rw [Nat.pow_succ] at he; omega)
    show (if e % 2 = 0 then pw a N f (e / 2) ^ 2 % N else pw a N f (e / 2) ^ 2 * a % N) = _
    rw [h1]
    by_cases h2 : e % 2 = 0
    · rw [if_pos h2, ← Nat.pow_mod, ← Nat.pow_mul]
      congr 2
      omega
    · rw [if_neg h2, Nat.mul_mod, ← Nat.pow_mod, ← Nat.mul_mod, ← Nat.pow_mul, ← Nat.pow_succ]
      congr 2
      omega
theorem pow_gcd {b d : Nat} (m n : Nat) : b ^ m % d = 1 % d → b ^ n % d = 1 % d → b ^ Nat.gcd m n % d = 1 % d := by
  induction m, n using Nat.gcd.induction with
  | H0 n => intro _ h; rw [Nat.gcd_zero_left]; exact h
  | H1 m n hm ih =>
    intro h1 h2
    rw [Nat.gcd_rec]
    refine ih ?_ h1
    have e : b ^ n = (b ^ m) ^ (n / m) * b ^ (n % m) := by rw [← Nat.pow_mul, ← Nat.pow_add, Nat.div_add_mod]
    rw [e, Nat.mul_mod, Nat.pow_mod, h1, ← Nat.pow_mod, Nat.one_pow, ← Nat.mul_mod, Nat.one_mul] at h2
    exact h2
theorem pock1 {N r k : Nat} (hr : Pr r) (hk : N - 1 = r * k) (h1 : 2 ^ (N - 1) % N = 1) (hg : Nat.gcd (2 ^ k % N + (N - 1)) N = 1) {d : Nat} (hd : Pr d) (hdN : d ∣ N) (hN : 2 ≤ N) : r ∣ d - 1 := by
  apply Classical.byContradiction
  intro hnr
  have hc : Nat.gcd r (d - 1) = 1 := hr.cop hnr
  have hd2 := hd.1
  have hr2 := hr.1
  have e1 : (2 ^ k) ^ r % d = 1 % d := by
    rw [← Nat.pow_mul, Nat.mul_comm, ← hk, ← Nat.mod_mod_of_dvd _ hdN, h1]
  have hnd : ¬ d ∣ 2 ^ k := fun hh => by
    have h3 : (2 ^ k) ^ 1 ∣ (2 ^ k) ^ r := Nat.pow_dvd_pow _ (by omega)
    rw [Nat.pow_one] at h3
    have h4 := Nat.mod_eq_zero_of_dvd (Nat.dvd_trans hh h3)
    rw [e1, Nat.mod_eq_of_lt (by omega)] at h4
    omega
  have e2 : (2 ^ k) ^ (d - 1) % d = 1 % d := by rw [fermat hd hnd, Nat.mod_eq_of_lt (by omega)]
  have e3 := pow_gcd r (d - 1) e1 e2
  rw [hc, Nat.pow_one, Nat.mod_eq_of_lt (by omega : 1 < d)] at e3
  have e4 : d ∣ 2 ^ k % N + (N - 1) := by
    apply Nat.dvd_of_mod_eq_zero
    rw [Nat.add_mod, Nat.mod_mod_of_dvd _ hdN, e3]
    obtain ⟨c, rfl⟩ := hdN
    have hc0 : c ≠ 0 := fun e => by subst e; omega
    obtain ⟨c', rfl⟩ : ∃ c', c = c' + 1 := ⟨c - 1, by omega⟩
    have e5 : d * (c' + 1) - 1 = (d - 1) + d * c' := by rw [Nat.mul_add]; omega
    rw [e5, Nat.add_mul_mod_self_left, Nat.mod_eq_of_lt (by omega : d - 1 < d), show 1 + (d - 1) = d by omega, Nat.mod_self]
  have e6 : d ∣ Nat.gcd (2 ^ k % N + (N - 1)) N := Nat.dvd_gcd e4 hdN
  rw [hg] at e6
  have := Nat.le_of_dvd (by omega) e6
  omega
theorem pock {N F : Nat} (hN : 2 ≤ N) (hF : ∀ d, Pr d → d ∣ N → F ∣ d - 1) (hFN : N < F * F) : Pr N := by
  refine ⟨hN, fun e he => ?_⟩
  apply Classical.byContradiction
  intro hc
  have he1 : e ≠ 1 := fun h => hc (Or.inl h)
  have he2 : e ≠ N := fun h => hc (Or.inr h)
  obtain ⟨c, hc1⟩ := he
  have key : ∀ x y : Nat, N = x * y → x ≤ y → x ≠ 1 → False := by
    intro x y hxy hle hx1
    have hx0 : x ≠ 0 := fun h => by subst h; rw [Nat.zero_mul] at hxy; omega
    obtain ⟨d, hd, hdx⟩ := exists_pr x (by omega)
    have h1 := hF d hd (Nat.dvd_trans hdx ⟨y, hxy⟩)
    have hd2 := hd.1
    have h2 := Nat.le_of_dvd (by omega) h1
    have h3 := Nat.le_of_dvd (by omega) hdx
    have h4 : F * F ≤ x * x := Nat.mul_le_mul (by omega) (by omega)
    have h5 : x * x ≤ x * y := Nat.mul_le_mul_left x hle
    omega
  rcases Nat.le_total e c with h | h
  · exact key e c hc1 h he1
  · refine key c e (by rw [Nat.mul_comm]; exact hc1) h fun h1 => ?_
    subst h1
    omega
theorem pockA {N r k f : Nat} (hr : Pr r) (hN : 2 ≤ N) (hk : N - 1 = r * k) (hf : N - 1 < 2 ^ f) (h1 : pw 2 N f (N - 1) = 1) (hg : Nat.gcd (pw 2 N f k + (N - 1)) N = 1) (hF : N < r * r) : Pr N := by
  have hkf : k < 2 ^ f := Nat.lt_of_le_of_lt (by rw [hk]; exact Nat.le_mul_of_pos_left k (by have := hr.1; omega)) hf
  rw [pw_eq _ _ _ _ hf] at h1
  rw [pw_eq _ _ _ _ hkf] at hg
  exact pock hN (fun d hd hdN => pock1 hr hk h1 hg hd hdN hN) hF
theorem pockB {N r k f r2 k2 : Nat} (hr : Pr r) (hr2 : Pr r2) (hne : r ≠ r2) (hN : 2 ≤ N) (hk : N - 1 = r * k) (hk2 : N - 1 = r2 * k2) (hf : N - 1 < 2 ^ f) (h1 : pw 2 N f (N - 1) = 1) (hg : Nat.gcd (pw 2 N f k + (N - 1)) N = 1) (hg2 : Nat.gcd (pw 2 N f k2 + (N - 1)) N = 1) (hF : N < r * r2 * (r * r2)) : Pr N := by
  have hkf : k < 2 ^ f := Nat.lt_of_le_of_lt (by rw [hk]; exact Nat.le_mul_of_pos_left k (by have := hr.1; omega)) hf
  have hkf2 : k2 < 2 ^ f := Nat.lt_of_le_of_lt (by rw [hk2]; exact Nat.le_mul_of_pos_left k2 (by have := hr2.1; omega)) hf
  rw [pw_eq _ _ _ _ hf] at h1
  rw [pw_eq _ _ _ _ hkf] at hg
  rw [pw_eq _ _ _ _ hkf2] at hg2
  have hcop : Nat.Coprime r r2 := hr.cop fun hd => by
    rcases hr2.2 r hd with h | h
    · have := hr.1
      omega
    · exact hne h
  exact pock hN (fun d hd hdN => hcop.mul_dvd_of_dvd_of_dvd (pock1 hr hk h1 hg hd hdN hN) (pock1 hr2 hk2 h1 hg2 hd hdN hN)) hF
theorem pr_small {n : Nat} (h : (decide (2 ≤ n) && (List.range n).all fun d => decide (d < 2) || decide (n % d ≠ 0)) = true) : Pr n := by
  rw [Bool.and_eq_true, List.all_eq_true] at h
  refine ⟨of_decide_eq_true h.1, fun d hd => ?_⟩
  have h2 : 2 ≤ n := of_decide_eq_true h.1
  have hle := Nat.le_of_dvd (by omega) hd
  by_cases e : d = n
  · exact Or.inr e
  · have h3 := h.2 d (List.mem_range.mpr (by omega))
    rw [Bool.or_eq_true] at h3
    rcases h3 with h3 | h3
    · have h4 : d < 2 := of_decide_eq_true h3
      have h0 : d ≠ 0 := fun e0 => by
        subst e0
        have := Nat.eq_zero_of_zero_dvd hd
        omega
      exact Or.inl (by omega)
    · exact absurd (Nat.mod_eq_zero_of_dvd hd) (of_decide_eq_true h3)
theorem pr_c0 : Pr 11 := pr_small (by decide +kernel)
theorem pr_c1 : Pr 139 := pr_small (by decide +kernel)
theorem pr_c2 : Pr 211 := pr_small (by decide +kernel)
theorem pr_c3 : Pr 233 := pr_small (by decide +kernel)
theorem pr_c4 : Pr 311 := pr_small (by decide +kernel)
theorem pr_c5 : Pr 421 := pr_small (by decide +kernel)
theorem pr_c6 : Pr 881 := pr_small (by decide +kernel)
theorem pr_c7 : Pr 937 := pr_small (by decide +kernel)
theorem pr_c8 : Pr 21407 := pockB (r := 139) (r2 := 11) (k := 154) (k2 := 1946) (f := 15) pr_c1 pr_c0 (by decide) (by decide) (by decide +kernel) (by decide +kernel) (by decide +kernel) (by decide +kernel) (by decide +kernel) (by decide +kernel) (by decide +kernel)
theorem pr_c9 : Pr 363557 := pockA (r := 937) (k := 388) (f := 19) pr_c7 (by decide) (by decide +kernel) (by decide +kernel) (by decide +kernel) (by decide +kernel) (by decide +kernel)
theorem pr_c10 : Pr 9863677 := pockB (r := 881) (r2 := 311) (k := 11196) (k2 := 31716) (f := 24) pr_c6 pr_c4 (by decide) (by decide) (by decide +kernel) (by decide +kernel) (by decide +kernel) (by decide +kernel) (by decide +kernel) (by decide +kernel) (by decide +kernel)
theorem pr_c11 : Pr 105957871 := pockB (r := 881) (r2 := 211) (k := 120270) (k2 := 502170) (f := 27) pr_c6 pr_c2 (by decide) (by decide) (by decide +kernel) (by decide +kernel) (by decide +kernel) (by decide +kernel) (by decide +kernel) (by decide +kernel) (by decide +kernel)
theorem pr_c12 : Pr 246608641 := pockA (r := 21407) (k := 11520) (f := 28) pr_c8 (by decide) (by decide +kernel) (by decide +kernel) (by decide +kernel) (by decide +kernel) (by decide +kernel)
theorem pr_c13 : Pr 272109983 := pockB (r := 421) (r2 := 233) (k := 646342) (k2 := 1167854) (f := 29) pr_c5 pr_c3 (by decide) (by decide) (by decide +kernel) (by decide +kernel) (by decide +kernel) (by decide +kernel) (by decide +kernel) (by decide +kernel) (by decide +kernel)
theorem pr_c14 : Pr 532247449 := pockA (r := 363557) (k := 1464) (f := 29) pr_c9 (by decide) (by decide +kernel) (by decide +kernel) (by decide +kernel) (by decide +kernel) (by decide +kernel)
theorem pr_c15 : Pr 228572385721 := pockA (r := 272109983) (k := 840) (f := 38) pr_c13 (by decide) (by decide +kernel) (by decide +kernel) (by decide +kernel) (by decide +kernel) (by decide +kernel)
theorem pr_c16 : Pr 23314383343543 := pockA (r := 228572385721) (k := 102) (f := 45) pr_c15 (by decide) (by decide +kernel) (by decide +kernel) (by decide +kernel) (by decide +kernel) (by decide +kernel)
theorem pr_c17 : Pr 37344768852931 := pockA (r := 9863677) (k := 3786090) (f := 46) pr_c10 (by decide) (by decide +kernel) (by decide +kernel) (by decide +kernel) (by decide +kernel) (by decide +kernel)
theorem pr_c18 : Pr 44925942675193 := pockA (r := 532247449) (k := 84408) (f := 46) pr_c14 (by decide) (by decide +kernel) (by decide +kernel) (by decide +kernel) (by decide +kernel) (by decide +kernel)
theorem pr_c19 : Pr 55942463741690639 := pockA (r := 37344768852931) (k := 1498) (f := 56) pr_c17 (by decide) (by decide +kernel) (by decide +kernel) (by decide +kernel) (by decide +kernel) (by decide +kernel)
theorem pr_c20 : Pr 426632512014427833817 := pockA (r := 23314383343543) (k := 18299112) (f := 69) pr_c16 (by decide) (by decide +kernel) (by decide +kernel) (by decide +kernel) (by decide +kernel) (by decide +kernel)
theorem pr_c21 : Pr 529709925838459440593 := pockB (r := 246608641) (r2 := 105957871) (k := 2147977960912) (k2 := 4999250370352) (f := 69) pr_c12 pr_c11 (by decide) (by decide) (by decide +kernel) (by decide +kernel) (by decide +kernel) (by decide +kernel) (by decide +kernel) (by decide +kernel) (by decide +kernel)
theorem pr_c22 : Pr 35581458644053887931343 := pockA (r := 44925942675193) (k := 792002494) (f := 75) pr_c18 (by decide) (by decide +kernel) (by decide +kernel) (by decide +kernel) (by decide +kernel) (by decide +kernel)
theorem pr_c23 : Pr 1495199339761412565498084319 := pockA (r := 426632512014427833817) (k := 3504654) (f := 91) pr_c20 (by decide) (by decide +kernel) (by decide +kernel) (by decide +kernel) (by decide +kernel) (by decide +kernel)
theorem pr_c24 : Pr 17942392077136950785977011829 := pockA (r := 1495199339761412565498084319) (k := 12) (f := 94) pr_c23 (by decide) (by decide +kernel) (by decide +kernel) (by decide +kernel) (by decide +kernel) (by decide +kernel)
theorem pr_c25 : Pr 23964610537191310276190549303 := pockA (r := 35581458644053887931343) (k := 673514) (f := 95) pr_c22 (by decide) (by decide +kernel) (by decide +kernel) (by decide +kernel) (by decide +kernel) (by decide +kernel)
theorem pr_c26 : Pr 862725979338887169942859774909 := pockA (r := 23964610537191310276190549303) (k := 36) (f := 100) pr_c25 (by decide) (by decide +kernel) (by decide +kernel) (by decide +kernel) (by decide +kernel) (by decide +kernel)
theorem pr_c27 : Pr 20705423504133292078628634597817 := pockA (r := 862725979338887169942859774909) (k := 24) (f := 105) pr_c26 (by decide) (by decide +kernel) (by decide +kernel) (by decide +kernel) (by decide +kernel) (by decide +kernel)
theorem pr_c28 : Pr 413244619895455989650825325680172591660047 := pockA (r := 20705423504133292078628634597817) (k := 19958279038) (f := 139) pr_c27 (by decide) (by decide +kernel) (by decide +kernel) (by decide +kernel) (by decide +kernel) (by decide +kernel)
theorem pr_c29 : Pr 12397338596863679689524759770405177749801411 := pockA (r := 413244619895455989650825325680172591660047) (k := 30) (f := 144) pr_c28 (by decide) (by decide +kernel) (by decide +kernel) (by decide +kernel) (by decide +kernel) (by decide +kernel)
theorem pr_c30 : Pr 1059392654943455286185473617842338478315215895509773412096307 := pockB (r := 17942392077136950785977011829) (r2 := 55942463741690639) (k := 59044114652548685817935616758314) (k2 := 18937182671022621403976774588414660839566254) (f := 200) pr_c24 pr_c19 (by decide) (by decide) (by decide +kernel) (by decide +kernel) (by decide +kernel) (by decide +kernel) (by decide +kernel) (by decide +kernel) (by decide +kernel)
theorem pr_c31 : Pr 3055465788140352002733946906144561090641249606160407884365391979704929268480326390471 := pockA (r := 1059392654943455286185473617842338478315215895509773412096307) (k := 2884167427329800039538210) (f := 281) pr_c30 (by decide) (by decide +kernel) (by decide +kernel) (by decide +kernel) (by decide +kernel) (by decide +kernel)
theorem pr_c32 : Pr 19173790298027098165721053155794528970226934547887232785722672956982046098136719667167519737147526097 := pockB (r := 12397338596863679689524759770405177749801411) (r2 := 529709925838459440593) (k := 1546605357933657467587294243086068506965106718544748132336) (k2 := 36196773673209108854078416512380613964711027274668755761194285045868717602353872) (f := 334) pr_c29 pr_c21 (by decide) (by decide) (by decide +kernel) (by decide +kernel) (by decide +kernel) (by decide +kernel) (by decide +kernel) (by decide +kernel) (by decide +kernel)
theorem pr_c33 : Pr 39402006196394479212279040100143613805079739270465446667946905279627659399113263569398956308152294913554433653942643 := pockA (r := 3055465788140352002733946906144561090641249606160407884365391979704929268480326390471) (k := 12895580879789762060783039592702) (f := 384) pr_c31 (by decide) (by decide +kernel) (by decide +kernel) (by decide +kernel) (by decide +kernel) (by decide +kernel)
theorem pr_c34 : Pr 39402006196394479212279040100143613805079739270465446667948293404245721771496870329047266088258938001861606973112319 := pockA (r := 19173790298027098165721053155794528970226934547887232785722672956982046098136719667167519737147526097) (k := 2054993070433694) (f := 384) pr_c32 (by decide) (by decide +kernel) (by decide +kernel) (by decide +kernel) (by decide +kernel) (by decide +kernel)
def pP : Nat := 39402006196394479212279040100143613805079739270465446667948293404245721771496870329047266088258938001861606973112319
def qP : Nat := 39402006196394479212279040100143613805079739270465446667946905279627659399113263569398956308152294913554433653942643
theorem prP : Pr pP := pr_c34
theorem prQ : Pr qP := pr_c33
