set_option maxRecDepth 100000
/-! the reference's constructor: the world that it leaves, whole -/
theorem lim_big {v j : Nat} (hv : v < 2 ^ 384) (hj : 12 ≤ j) : lim v j = 0 := by
  unfold lim
  have h1 : v / 2 ^ (32 * j) = 0 := Nat.div_eq_of_lt (Nat.lt_of_lt_of_le hv (Nat.pow_le_pow_right (by decide) (by omega)))
  first
    | rw [h1]; rfl
    | (simp [h1]; done)
theorem lo_P : lo12 gP 12 = lim pP := funext fun j => by
  unfold lo12
  by_cases hj : j < 12
  · rw [if_pos hj]
    have h : ∀ j, j < 12 → gP j = lim pP j := by decide +kernel
    exact h j hj
  · rw [if_neg hj, lim_big (by decide +kernel) (by omega)]
theorem lo_Q : lo12 gQ 12 = lim qP := funext fun j => by
  unfold lo12
  by_cases hj : j < 12
  · rw [if_pos hj]
    have h : ∀ j, j < 12 → gQ j = lim qP j := by decide +kernel
    exact h j hj
  · rw [if_neg hj, lim_big (by decide +kernel) (by omega)]
theorem hi_lo (f : Nat → Int32) : hi12 f 0 = lo12 f 12 := funext fun j => by
  unfold hi12 lo12
  by_cases hj : j < 12
  · rw [if_pos (by omega), if_pos hj]
  · rw [if_neg (by omega), if_neg hj]
theorem gx_lt : V 12 (cpN 12 gGX fun _ => 0) < pP := by decide +kernel
theorem gy_lt : V 12 (cpN 12 gGY fun _ => 0) < pP := by decide +kernel
theorem F00_0 {k : Nat} (h : k ≠ 78) : F00 k = 0 := if_neg h
theorem R00_0 {k : Nat} (h : k ≠ 200) (h2 : k ≠ 300) : R00 k = 0 := by unfold R00; rw [if_neg h, if_neg h2]
section PIx
variable {A : Nat → Nat} {P : Nat → AC} {X h : AH} {a0 : Nat}
/-- what a cell is in the whole world, where it is no array of references -/
theorem WC_cel (w4 : P 96 = Ob 11 (gFl A 132)) (hP : P 500 = Ob 12 [.ref (A 510), .ref (A 520), .int 12, .int 0] ∧ P 510 = Ai false 0 64 (lo12 gP 12) ∧ P 520 = Ai false 0 64 (hi12 gP 0) ∧ P 501 = Ob 12 [.ref (A 511), .ref (A 521), .int 12, .int 0] ∧ P 511 = Ai false 0 64 (lo12 gQ 12) ∧ P 521 = Ai false 0 64 (hi12 gQ 0) ∧ P 200 = Ai false 0 12 (cpN 12 gGX fun _ => 0) ∧ P 300 = Ai false 0 12 (cpN 12 gGY fun _ => 0))
    {k : Nat} (hk : (kdM k).1 ≠ 0) (h6 : k ≠ 48 ∧ k ≠ 49 ∧ k ≠ 64 ∧ k ≠ 65 ∧ k ≠ 66 ∧ k ≠ 74) : WC (R00 k) (fun _ => 0) (S00 k) (mO A F00 k) (kdM k) (some (cel pd2 A P k)) := by
  obtain ⟨q1, q2, q3, q4, q5, q6, q7, q8⟩ := hP
  have hlo : ∀ k, k < 97 → (k = 48 ∨ k = 49 ∨ k = 64 ∨ k = 65 ∨ k = 66 ∨ k = 74 ∨ k = 96) ∨ ((kdM k).1 ≤ 6 ∧ ((kdM k).1 = 1 → (kdM k).2.1 = 0 ∧ (kdM k).2.2 = 12) ∧ ((kdM k).1 = 2 → (kdM k).2.1 = 0)) := by decide +kernel
  have h2 : ∀ s, s < 31 → (kdM (200 + s)).1 ≤ 6 ∧ ((kdM (200 + s)).1 = 1 → (kdM (200 + s)).2.1 = 0 ∧ (kdM (200 + s)).2.2 = 12) ∧ ((kdM (200 + s)).1 = 2 → (kdM (200 + s)).2.1 = 0) := by decide +kernel
  have h3 : ∀ s, s < 31 → (kdM (300 + s)).1 ≤ 6 ∧ ((kdM (300 + s)).1 = 1 → (kdM (300 + s)).2.1 = 0 ∧ (kdM (300 + s)).2.2 = 12) ∧ ((kdM (300 + s)).1 = 2 → (kdM (300 + s)).2.1 = 0) := by decide +kernel
  have h5 : ∀ s, s < 6 → kdM (530 + s) = (3, 0, 64) ∧ kdM (512 + s) = (3, 0, 64) ∧ kdM (522 + s) = (3, 0, 64) := by decide +kernel
  have h60 : ∀ s, s < 60 → kdM (600 + s) = (3, 0, 64) := by decide +kernel
  have h4 : ∀ s, s < 31 → kdM (400 + s) = (7, 0, 0) := by decide +kernel
  have h8 : ∀ s, s < 6 → kdM (502 + s) = (7, 0, 0) := by decide +kernel
  have arr : pd2 k = false → k ≠ 200 → k ≠ 300 → (kdM k).1 ≤ 6 → ((kdM k).1 = 1 → (kdM k).2.1 = 0 ∧ (kdM k).2.2 = 12) → ((kdM k).1 = 2 → (kdM k).2.1 = 0) → dO A k = dA (kdM k) → WC (R00 k) (fun _ => 0) (S00 k) (mO A F00 k) (kdM k) (some (cel pd2 A P k)) := by
    intro p n1 n2 a b c e
    unfold cel
    rw [if_neg (by rw [p]; decide), e, R00_0 n1 n2]
    exact WC_dA a hk b c (S00_z k)
  rcases kdM_in hk with z | z | z | z | z | z | z | z | z
  · by_cases e : k = 96
    · subst e
      show some (cel pd2 A P 96) = some (mO A F00 96)
      show some (P 96) = some (Ob 11 (mFl A F00))
      rw [w4, gFl_big (by decide), gFl_m]
    · obtain ⟨a, b, c⟩ := (hlo k z).resolve_left (by omega)
      refine arr ?_ (by omega) (by omega) a b c ?_
      · unfold pd2
        simp only [Bool.or_eq_false_iff, beq_eq_false_iff_ne, ne_eq]
        omega
      · unfold dO
        rw [if_neg (by omega), if_neg (by omega), if_neg (by omega), if_neg (by omega), if_neg (by omega), if_neg (by omega), if_neg (by omega), if_neg (by omega)]
  · by_cases e : k = 200
    · subst e
      show ∃ f, some (cel pd2 A P 200) = some (Ai false 0 12 f) ∧ V 12 f = R00 200 ∧ R00 200 < pP
      exact ⟨cpN 12 gGX fun _ => 0, congrArg some q7, rfl, gx_lt⟩
    · obtain ⟨s, rfl⟩ : ∃ s, k = 200 + s := ⟨k - 200, by omega⟩
      obtain ⟨a, b, c⟩ := h2 s (by omega)
      refine arr ?_ (by omega) (by omega) a b c ?_
      · unfold pd2
        simp only [Bool.or_eq_false_iff, beq_eq_false_iff_ne, ne_eq]
        omega
      · unfold dO
        rw [if_neg (by omega), if_neg (by omega), if_neg (by omega), if_neg (by omega), if_neg (by omega), if_neg (by omega), if_neg (by omega), if_neg (by omega)]
  · by_cases e : k = 300
    · subst e
      show ∃ f, some (cel pd2 A P 300) = some (Ai false 0 12 f) ∧ V 12 f = R00 300 ∧ R00 300 < pP
      exact ⟨cpN 12 gGY fun _ => 0, congrArg some q8, rfl, gy_lt⟩
    · obtain ⟨s, rfl⟩ : ∃ s, k = 300 + s := ⟨k - 300, by omega⟩
      obtain ⟨a, b, c⟩ := h3 s (by omega)
      refine arr ?_ (by omega) (by omega) a b c ?_
      · unfold pd2
        simp only [Bool.or_eq_false_iff, beq_eq_false_iff_ne, ne_eq]
        omega
      · unfold dO
        rw [if_neg (by omega), if_neg (by omega), if_neg (by omega), if_neg (by omega), if_neg (by omega), if_neg (by omega), if_neg (by omega), if_neg (by omega)]
  · obtain ⟨s, rfl⟩ : ∃ s, k = 400 + s := ⟨k - 400, by omega⟩
    rw [h4 s (by omega)]
    show some (cel pd2 A P (400 + s)) = some (mO A F00 (400 + s))
    have p : pd2 (400 + s) = false := by
      unfold pd2
      simp only [Bool.or_eq_false_iff, beq_eq_false_iff_ne, ne_eq]
      omega
    unfold cel mO dO
    rw [if_neg (by rw [p]; decide), if_pos (by omega), if_neg (by omega), if_neg (by omega), if_pos (by omega), F00_0 (by omega)]
  · by_cases e : k = 500
    · subst e
      exact congrArg some q1
    · by_cases e' : k = 501
      · subst e'
        exact congrArg some q4
      · obtain ⟨s, rfl⟩ : ∃ s, k = 502 + s := ⟨k - 502, by omega⟩
        rw [h8 s (by omega)]
        show some (cel pd2 A P (502 + s)) = some (mO A F00 (502 + s))
        have p : pd2 (502 + s) = false := by
          unfold pd2
          simp only [Bool.or_eq_false_iff, beq_eq_false_iff_ne, ne_eq]
          omega
        unfold cel mO dO
        rw [if_neg (by rw [p]; decide), if_neg (by omega), if_pos (by omega), if_neg (by omega), if_neg (by omega), if_neg (by omega), if_neg (by omega), if_pos (by omega), F00_0 (by omega), F00_0 (by omega)]
  · by_cases e : k = 510
    · subst e
      refine congrArg some (q2.trans ?_)
      rw [lo_P]
      rfl
    · by_cases e' : k = 511
      · subst e'
        refine congrArg some (q5.trans ?_)
        rw [lo_Q]
        rfl
      · obtain ⟨s, rfl⟩ : ∃ s, k = 512 + s := ⟨k - 512, by omega⟩
        rw [(h5 s (by omega)).2.1]
        show some (cel pd2 A P (512 + s)) = some (Ai false 0 64 fun _ => 0)
        have p : pd2 (512 + s) = false := by
          unfold pd2
          simp only [Bool.or_eq_false_iff, beq_eq_false_iff_ne, ne_eq]
          omega
        unfold cel dO
        rw [if_neg (by rw [p]; decide), if_neg (by omega), if_neg (by omega), if_pos (by omega)]
  · by_cases e : k = 520
    · subst e
      refine congrArg some (q3.trans ?_)
      rw [hi_lo, lo_P]
      rfl
    · by_cases e' : k = 521
      · subst e'
        refine congrArg some (q6.trans ?_)
        rw [hi_lo, lo_Q]
        rfl
      · obtain ⟨s, rfl⟩ : ∃ s, k = 522 + s := ⟨k - 522, by omega⟩
        rw [(h5 s (by omega)).2.2]
        show some (cel pd2 A P (522 + s)) = some (Ai false 0 64 fun _ => 0)
        have p : pd2 (522 + s) = false := by
          unfold pd2
          simp only [Bool.or_eq_false_iff, beq_eq_false_iff_ne, ne_eq]
          omega
        unfold cel dO
        rw [if_neg (by rw [p]; decide), if_neg (by omega), if_neg (by omega), if_pos (by omega)]
  · obtain ⟨s, rfl⟩ : ∃ s, k = 530 + s := ⟨k - 530, by omega⟩
    have e := (h5 s (by omega)).1
    refine arr ?_ (by omega) (by omega) (by rw [e]; decide) (by rw [e]; exact fun z => absurd z (by decide)) (by rw [e]; exact fun z => absurd z (by decide)) ?_
    · unfold pd2
      simp only [Bool.or_eq_false_iff, beq_eq_false_iff_ne, ne_eq]
      omega
    · unfold dO
      rw [if_neg (by omega), if_neg (by omega), if_neg (by omega), if_neg (by omega), if_neg (by omega), if_neg (by omega), if_neg (by omega), if_neg (by omega)]
  · obtain ⟨s, rfl⟩ : ∃ s, k = 600 + s := ⟨k - 600, by omega⟩
    have e := h60 s (by omega)
    refine arr ?_ (by omega) (by omega) (by rw [e]; decide) (by rw [e]; exact fun z => absurd z (by decide)) (by rw [e]; exact fun z => absurd z (by decide)) ?_
    · unfold pd2
      simp only [Bool.or_eq_false_iff, beq_eq_false_iff_ne, ne_eq]
      omega
    · unfold dO
      rw [if_neg (by omega), if_neg (by omega), if_neg (by omega), if_neg (by omega), if_neg (by omega), if_neg (by omega), if_neg (by omega), if_neg (by omega)]
end PIx
