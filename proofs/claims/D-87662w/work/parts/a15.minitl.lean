set_option maxRecDepth 100000
/-! the reference's constructor: the loops -/
section PIl
variable {pd : Nat → Bool} {A : Nat → Nat} {P : Nat → AC} {d : Nat} {X h : AH} {a0 : Nat}
theorem PI.jump (w : PI pd A P d X h) (hd : 96 ≤ d) {d' : Nat} (hle : d ≤ d') (hn : ∀ k, (kdM k).1 ≠ 0 → ownF k < d' → ownF k < d) : PI pd A P d' X h := by
  have e : ∀ k, KI d' k → KI d k := fun k hk => ⟨hk.1, hn k hk.1 hk.2⟩
  have e' : ∀ k, KI d k → KI d' k := fun k hk => ⟨hk.1, Nat.lt_of_lt_of_le hk.2 hle⟩
  exact ⟨fun k k' hk hk' => w.1 k k' (e k hk) (e k' hk'), fun k hk => w.2.1 k (e k hk), fun a ha => w.2.2.1 a (fun k hk => ha k (e' k hk)), by rw [w.2.2.2.1, gFl_big hd, gFl_big (Nat.le_trans hd hle)], w.2.2.2.2⟩
theorem gFl_keep {A A' : Nat → Nat} {d : Nat} (hd : 96 ≤ d) (hA : ∀ k, KI d k → A' k = A k) : gFl A' (d + 1) = gFl A d := by
  rw [gFl_big hd, gFl_big (show 96 ≤ d + 1 by omega)]
  refine gFl_cg fun i k hi hk => hA k ?_
  have hh : ∀ i, i < 96 → ∀ k ∈ fkL.getD i none, (kdM k).1 ≠ 0 ∧ ownF k < 96 := by decide +kernel
  obtain ⟨z1, z2⟩ := hh i hi k (by rw [hk]; rfl)
  exact ⟨z1, by omega⟩
/-- a new spot of the loops -/
theorem PI.spotL (w : PI pd2 A P d X h) {s : Nat} (hs : s < 31) (hd : sfO s = d) (h96 : 96 ≤ d) {b x y : Nat} (hb : h b = none) (hx : hset h b (Ob 13 [.null, .null, .int 0]) x = none) (hy : hset h b (Ob 13 [.null, .null, .int 0]) y = none) (exy : x ≠ y) :
    ∃ A' P', PI pd2 A' P' (d + 1) X (hset (hset (hset (hset h b (Ob 13 [.null, .null, .int 0])) x (Ai false 0 12 fun _ => 0)) y (Ai false 0 12 fun _ => 0)) b (Ob 13 [.ref x, .ref y, .int 0])) ∧ A' 96 = A 96 ∧ A' (400 + s) = b ∧ (∀ k, KI d k → A' k = A k) ∧ ∀ k, k ≠ 96 → P' k = P k := by
  have h0 : 0 < d := by omega
  have hs9 : 9 ≤ s := by
    apply Nat.le_of_not_lt
    intro z
    have hh : ∀ s, s < 9 → sfO s < 96 := by decide +kernel
    have := hh s z
    omega
  obtain ⟨o1, o2, o3⟩ := own_x hs
  obtain ⟨n1, n2, n3⟩ := kdM_spot hs
  have exb : x ≠ b := fun e => by rw [e, hset_self] at hx; cases hx
  have eyb : y ≠ b := fun e => by rw [e, hset_self] at hy; cases hy
  rw [hset_ne exb] at hx
  rw [hset_ne eyb] at hy
  have pf : ∀ k, (209 ≤ k ∧ k < 231) ∨ (309 ≤ k ∧ k < 331) ∨ (409 ≤ k ∧ k < 431) → pd2 k = false := fun k hk => by
    unfold pd2
    simp only [Bool.or_eq_false_iff, beq_eq_false_iff_ne, ne_eq]
    omega
  have zx : ∀ A, dO A (200 + s) = Ai false 0 12 (fun _ => 0) := fun A => by
    have hk : ∀ s, s < 31 → (kdM (200 + s)) = (1, 0, 12) ∨ (kdM (200 + s)) = (2, 0, 12) := by decide +kernel
    unfold dO
    rw [if_neg (by omega), if_neg (by omega), if_neg (by omega), if_neg (by omega), if_neg (by omega), if_neg (by omega), if_neg (by omega), if_neg (by omega)]
    rcases hk s hs with e | e
    · rw [e]; rfl
    · rw [e]; rfl
  have zy : ∀ A, dO A (300 + s) = Ai false 0 12 (fun _ => 0) := fun A => by
    have hk : ∀ s, s < 31 → (kdM (300 + s)) = (1, 0, 12) := by decide +kernel
    unfold dO
    rw [if_neg (by omega), if_neg (by omega), if_neg (by omega), if_neg (by omega), if_neg (by omega), if_neg (by omega), if_neg (by omega), if_neg (by omega), hk s hs]
    rfl
  have zO : ∀ A, dO A (400 + s) = (fun x y => Ob 13 [.ref x, .ref y, .int 0]) (A (200 + s)) (A (300 + s)) := fun A => by
    unfold dO
    rw [if_pos (by omega), show 400 + s - 200 = 200 + s by omega, show 400 + s - 100 = 300 + s by omega]
  have hfl : gFl A d = gFl (up (up (up A (200 + s) x) (300 + s) y) (400 + s) b) (d + 1) := by
    rw [gFl_keep h96 (fun k hk => ?_)]
    have := hk.2
    rw [up_ne (fun e => by rw [e, o3] at this; omega), up_ne (fun e => by rw [e, o2] at this; omega), up_ne (fun e => by rw [e, o1] at this; omega)]
  have hall : ∀ k, (kdM k).1 ≠ 0 → ownF k = d → k = 200 + s ∨ k = 300 + s ∨ k = 400 + s := fun k hk ho => own_sp hs hk (ho.trans hd.symm)
  obtain ⟨A', P', w', e1, e2, e3, e4⟩ := w.three h0 (kb := 400 + s) (kx := 200 + s) (ky := 300 + s) (O := fun x y => Ob 13 [.ref x, .ref y, .int 0]) hall (o3.trans hd) (o1.trans hd) (o2.trans hd) n3 n1 n2 (by omega) (by omega) (by omega) (pf _ (by omega)) (pf _ (by omega)) (pf _ (by omega)) hb hx hy exy exb eyb zx zy zO hfl
  refine ⟨A', P', ?_, e1, e2, e3, e4⟩
  have eh : hset (hset (hset (hset h b (Ob 13 [.null, .null, .int 0])) x (Ai false 0 12 fun _ => 0)) y (Ai false 0 12 fun _ => 0)) b (Ob 13 [.ref x, .ref y, .int 0]) = hset (hset (hset h x (Ai false 0 12 fun _ => 0)) y (Ai false 0 12 fun _ => 0)) b (Ob 13 [.ref x, .ref y, .int 0]) := by
    rw [hset_comm h _ _ (fun e => exb e.symm), hset_comm _ _ _ (fun e => eyb e.symm), hset_hset]
  have hz := w.a96 h0
  have e5 : hset (hset (hset (hset h x (Ai false 0 12 fun _ => 0)) y (Ai false 0 12 fun _ => 0)) b (Ob 13 [.ref x, .ref y, .int 0])) (A 96) (Ob 11 (gFl A d)) = hset (hset (hset h x (Ai false 0 12 fun _ => 0)) y (Ai false 0 12 fun _ => 0)) b (Ob 13 [.ref x, .ref y, .int 0]) := by
    apply hset_same
    rw [hset_ne (fun e => by rw [← e, hz] at hb; cases hb), hset_ne (fun e => by rw [← e, hz] at hy; cases hy), hset_ne (fun e => by rw [← e, hz] at hx; cases hx)]
    exact hz
  rw [eh, ← e5]
  exact w'
/-- a new modulus of the loops -/
theorem PI.moduL (w : PI pd2 A P d X h) {s : Nat} (hs : s < 8) (hd : mfO s = d) (h96 : 96 ≤ d) {b x y : Nat} (hb : h b = none) (hx : hset h b (Ob 12 [.null, .null, .int 0, .int 0]) x = none) (hy : hset h b (Ob 12 [.null, .null, .int 0, .int 0]) y = none) (exy : x ≠ y) :
    ∃ A' P', PI pd2 A' P' (d + 1) X (hset (hset (hset (hset h b (Ob 12 [.null, .null, .int 0, .int 0])) x (Ai false 0 64 fun _ => 0)) y (Ai false 0 64 fun _ => 0)) b (Ob 12 [.ref x, .ref y, .int 0, .int 0])) ∧ A' 96 = A 96 ∧ A' (500 + s) = b ∧ (∀ k, KI d k → A' k = A k) ∧ ∀ k, k ≠ 96 → P' k = P k := by
  have h0 : 0 < d := by omega
  have hs9 : 2 ≤ s := by
    apply Nat.le_of_not_lt
    intro z
    have hh : ∀ s, s < 2 → mfO s < 96 := by decide +kernel
    have := hh s z
    omega
  obtain ⟨o1, o2, o3⟩ := own_m hs
  obtain ⟨n1, n2, n3⟩ := kdM_mod hs
  have exb : x ≠ b := fun e => by rw [e, hset_self] at hx; cases hx
  have eyb : y ≠ b := fun e => by rw [e, hset_self] at hy; cases hy
  rw [hset_ne exb] at hx
  rw [hset_ne eyb] at hy
  have pf : ∀ k, (502 ≤ k ∧ k < 508) ∨ (512 ≤ k ∧ k < 518) ∨ (522 ≤ k ∧ k < 528) → pd2 k = false := fun k hk => by
    unfold pd2
    simp only [Bool.or_eq_false_iff, beq_eq_false_iff_ne, ne_eq]
    omega
  have zx : ∀ A, dO A (510 + s) = Ai false 0 64 (fun _ => 0) := fun A => by
    unfold dO
    rw [if_neg (by omega), if_neg (by omega), if_pos (by omega)]
  have zy : ∀ A, dO A (520 + s) = Ai false 0 64 (fun _ => 0) := fun A => by
    unfold dO
    rw [if_neg (by omega), if_neg (by omega), if_pos (by omega)]
  have zO : ∀ A, dO A (500 + s) = (fun x y => Ob 12 [.ref x, .ref y, .int 0, .int 0]) (A (510 + s)) (A (520 + s)) := fun A => by
    unfold dO
    rw [if_neg (by omega), if_pos (by omega), show 500 + s + 10 = 510 + s by omega, show 500 + s + 20 = 520 + s by omega]
  have hfl : gFl A d = gFl (up (up (up A (510 + s) x) (520 + s) y) (500 + s) b) (d + 1) := by
    rw [gFl_keep h96 (fun k hk => ?_)]
    have := hk.2
    rw [up_ne (fun e => by rw [e, o1] at this; omega), up_ne (fun e => by rw [e, o3] at this; omega), up_ne (fun e => by rw [e, o2] at this; omega)]
  have hall : ∀ k, (kdM k).1 ≠ 0 → ownF k = d → k = 510 + s ∨ k = 520 + s ∨ k = 500 + s := fun k hk ho => by
    rcases own_md hs hk (ho.trans hd.symm) with z | z | z
    · exact Or.inr (Or.inr z)
    · exact Or.inl z
    · exact Or.inr (Or.inl z)
  obtain ⟨A', P', w', e1, e2, e3, e4⟩ := w.three h0 (kb := 500 + s) (kx := 510 + s) (ky := 520 + s) (O := fun x y => Ob 12 [.ref x, .ref y, .int 0, .int 0]) hall (o1.trans hd) (o2.trans hd) (o3.trans hd) n1 n2 n3 (by omega) (by omega) (by omega) (pf _ (by omega)) (pf _ (by omega)) (pf _ (by omega)) hb hx hy exy exb eyb zx zy zO hfl
  refine ⟨A', P', ?_, e1, e2, e3, e4⟩
  have eh : hset (hset (hset (hset h b (Ob 12 [.null, .null, .int 0, .int 0])) x (Ai false 0 64 fun _ => 0)) y (Ai false 0 64 fun _ => 0)) b (Ob 12 [.ref x, .ref y, .int 0, .int 0]) = hset (hset (hset h x (Ai false 0 64 fun _ => 0)) y (Ai false 0 64 fun _ => 0)) b (Ob 12 [.ref x, .ref y, .int 0, .int 0]) := by
    rw [hset_comm h _ _ (fun e => exb e.symm), hset_comm _ _ _ (fun e => eyb e.symm), hset_hset]
  have hz := w.a96 h0
  have e5 : hset (hset (hset (hset h x (Ai false 0 64 fun _ => 0)) y (Ai false 0 64 fun _ => 0)) b (Ob 12 [.ref x, .ref y, .int 0, .int 0])) (A 96) (Ob 11 (gFl A d)) = hset (hset (hset h x (Ai false 0 64 fun _ => 0)) y (Ai false 0 64 fun _ => 0)) b (Ob 12 [.ref x, .ref y, .int 0, .int 0]) := by
    apply hset_same
    rw [hset_ne (fun e => by rw [← e, hz] at hb; cases hb), hset_ne (fun e => by rw [← e, hz] at hy; cases hy), hset_ne (fun e => by rw [← e, hz] at hx; cases hx)]
    exact hz
  rw [eh, ← e5]
  exact w'
end PIl
