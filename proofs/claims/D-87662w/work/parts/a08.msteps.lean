set_option maxRecDepth 100000
/-! the constructor's steps over what has been made -/
def spB (d : Nat) : Bool := d == 9 || d == 10 || d == 11 || d == 12 || d == 39 || d == 50 || d == 51 || d == 52 || d == 53 || d == 54 || d == 64 || d == 74 || d == 93
theorem sfO_in : ∀ s, s < 31 → spB (sfO s) = true ∨ 100 ≤ sfO s := by decide +kernel
theorem mfO_in : ∀ j, j < 8 → spB (mfO j) = true ∨ 100 ≤ mfO j := by decide +kernel
theorem sfO_kd : ∀ s, s < 31 → sfO s < 96 → (kdM (sfO s)).1 = 0 := by decide +kernel
theorem mfO_kd : ∀ s, s < 8 → mfO s < 96 → (kdM (mfO s)).1 = 0 := by decide +kernel
theorem sfO_inj : ∀ s, s < 31 → ∀ t, t < 31 → sfO s = sfO t → s = t := by decide +kernel
theorem mfO_inj : ∀ s, s < 8 → ∀ t, t < 8 → mfO s = mfO t → s = t := by decide +kernel
theorem sfO_mfO : ∀ s, s < 31 → ∀ t, t < 8 → sfO s ≠ mfO t := by decide +kernel
theorem sfO_g : ∀ s, s < 31 → sfO s ≠ 64 ∧ sfO s ≠ 74 ∧ 0 < sfO s := by decide +kernel
theorem mfO_g : ∀ s, s < 8 → mfO s ≠ 64 ∧ mfO s ≠ 74 ∧ 0 < mfO s := by decide +kernel
theorem fkL_inj : ∀ i, i < 96 → ∀ j, j < 96 → fkL.getD i none ≠ none → fkL.getD i none = fkL.getD j none → i = j := by decide +kernel
theorem own_lt {k : Nat} (h : k < 96) : ownF k = k := by unfold ownF; rw [if_pos h]
/-- what a key can be, by the field with which it is made -/
theorem own_all {k : Nat} (hk : (kdM k).1 ≠ 0) : (k < 96 ∧ ownF k = k) ∨ (k = 96 ∧ ownF k = 0) ∨ (∃ s, s < 31 ∧ (k = 200 + s ∨ k = 300 + s ∨ k = 400 + s) ∧ ownF k = sfO s) ∨ (∃ j, j < 8 ∧ (k = 500 + j ∨ k = 510 + j ∨ k = 520 + j) ∧ ownF k = mfO j) ∨ (∃ j, j < 6 ∧ k = 530 + j ∧ ownF k = 64) ∨ (∃ j, j < 60 ∧ k = 600 + j ∧ ownF k = 74) := by
  rcases kdM_in hk with z | z | z | z | z | z | z | z | z
  · by_cases e : k = 96
    · subst e
      exact Or.inr (Or.inl ⟨rfl, rfl⟩)
    · exact Or.inl ⟨by omega, own_lt (by omega)⟩
  · obtain ⟨s, rfl⟩ : ∃ s, k = 200 + s := ⟨k - 200, by omega⟩
    exact Or.inr (Or.inr (Or.inl ⟨s, by omega, Or.inl rfl, (own_x (by omega)).1⟩))
  · obtain ⟨s, rfl⟩ : ∃ s, k = 300 + s := ⟨k - 300, by omega⟩
    exact Or.inr (Or.inr (Or.inl ⟨s, by omega, Or.inr (Or.inl rfl), (own_x (by omega)).2.1⟩))
  · obtain ⟨s, rfl⟩ : ∃ s, k = 400 + s := ⟨k - 400, by omega⟩
    exact Or.inr (Or.inr (Or.inl ⟨s, by omega, Or.inr (Or.inr rfl), (own_x (by omega)).2.2⟩))
  · obtain ⟨s, rfl⟩ : ∃ s, k = 500 + s := ⟨k - 500, by omega⟩
    exact Or.inr (Or.inr (Or.inr (Or.inl ⟨s, by omega, Or.inl rfl, (own_m (by omega)).1⟩)))
  · obtain ⟨s, rfl⟩ : ∃ s, k = 510 + s := ⟨k - 510, by omega⟩
    exact Or.inr (Or.inr (Or.inr (Or.inl ⟨s, by omega, Or.inr (Or.inl rfl), (own_m (by omega)).2.1⟩)))
  · obtain ⟨s, rfl⟩ : ∃ s, k = 520 + s := ⟨k - 520, by omega⟩
    exact Or.inr (Or.inr (Or.inr (Or.inl ⟨s, by omega, Or.inr (Or.inr rfl), (own_m (by omega)).2.2⟩)))
  · obtain ⟨s, rfl⟩ : ∃ s, k = 530 + s := ⟨k - 530, by omega⟩
    exact Or.inr (Or.inr (Or.inr (Or.inr (Or.inl ⟨s, by omega, rfl, by rw [own_g (Or.inl (by omega)), if_pos (by omega)]⟩))))
  · obtain ⟨s, rfl⟩ : ∃ s, k = 600 + s := ⟨k - 600, by omega⟩
    exact Or.inr (Or.inr (Or.inr (Or.inr (Or.inr ⟨s, by omega, rfl, by rw [own_g (Or.inr (by omega)), if_neg (by omega)]⟩))))
theorem own_1 {d k : Nat} (h0 : 0 < d) (hd : d < 96) (hs : spB d = false) (hk : (kdM k).1 ≠ 0) (ho : ownF k = d) : k = d := by
  rcases own_all hk with ⟨-, z⟩ | ⟨-, z⟩ | ⟨s, hs', -, z⟩ | ⟨j, hj, -, z⟩ | ⟨j, hj, -, z⟩ | ⟨j, hj, -, z⟩
  · omega
  · omega
  · rcases sfO_in s hs' with y | y
    · rw [← z, ho, hs] at y; cases y
    · omega
  · rcases mfO_in j hj with y | y
    · rw [← z, ho, hs] at y; cases y
    · omega
  · rw [← ho, z] at hs; cases hs
  · rw [← ho, z] at hs; cases hs
theorem own_sp {s k : Nat} (hs : s < 31) (hk : (kdM k).1 ≠ 0) (ho : ownF k = sfO s) : k = 200 + s ∨ k = 300 + s ∨ k = 400 + s := by
  rcases own_all hk with ⟨y, z⟩ | ⟨-, z⟩ | ⟨t, ht, y, z⟩ | ⟨j, hj, -, z⟩ | ⟨j, hj, -, z⟩ | ⟨j, hj, -, z⟩
  · exact absurd (by rw [← z, ho]; exact sfO_kd s hs (by omega)) hk
  · have := (sfO_g s hs).2.2; omega
  · have := sfO_inj s hs t ht (ho.symm.trans z)
    subst this
    exact y
  · exact absurd (ho.symm.trans z) (sfO_mfO s hs j hj)
  · exact absurd (ho.symm.trans z) (sfO_g s hs).1
  · exact absurd (ho.symm.trans z) (sfO_g s hs).2.1
theorem own_md {s k : Nat} (hs : s < 8) (hk : (kdM k).1 ≠ 0) (ho : ownF k = mfO s) : k = 500 + s ∨ k = 510 + s ∨ k = 520 + s := by
  rcases own_all hk with ⟨y, z⟩ | ⟨-, z⟩ | ⟨t, ht, y, z⟩ | ⟨j, hj, y, z⟩ | ⟨j, hj, -, z⟩ | ⟨j, hj, -, z⟩
  · exact absurd (by rw [← z, ho]; exact mfO_kd s hs (by omega)) hk
  · have := (mfO_g s hs).2.2; omega
  · exact absurd (z.symm.trans ho) (sfO_mfO t ht s hs)
  · have := mfO_inj s hs j hj (ho.symm.trans z)
    subst this
    exact y
  · exact absurd (ho.symm.trans z) (mfO_g s hs).1
  · exact absurd (ho.symm.trans z) (mfO_g s hs).2.1
section PIt
variable {pd : Nat → Bool} {A A' : Nat → Nat} {P P' : Nat → AC} {d : Nat} {X h h' : AH}
theorem PI.a96 (w : PI pd A P d X h) (h0 : 0 < d) : h (A 96) = some (Ob 11 (gFl A d)) := by
  rw [w.2.1 96 ⟨by decide, h0⟩]
  unfold cel
  rw [if_pos w.2.2.2.2, w.2.2.2.1]
/-- fields set so far keep their cells -/
theorem fk_keep {k q : Nat} (hd : d < 96) (hfk : fkL.getD d none = some k) (hA : ∀ j, j ≠ k → A' j = A j) : ∀ i j, i < d → fkL.getD i none = some j → A' j = A j := by
  intro i j hi hj
  apply hA
  intro e
  subst e
  have := fkL_inj i (by omega) d hd (by rw [hj]; exact fun z => by cases z) (by rw [hj, hfk])
  omega
/-- a field with one new cell -/
theorem PI.one (w : PI pd A P d X h) (h0 : 0 < d) (hd : d < 96) (hs : spB d = false) (hfk : fkL.getD d none = some d) (hpd : pd d = false) (hkd : (kdM d).1 ≠ 0) {c0 : AC} (hc : ∀ A, dO A d = c0) {q : Nat} (hq : h q = none) :
    ∃ A' P', PI pd A' P' (d + 1) X (hset (hset h q c0) (A 96) (Ob 11 ((gFl A d).set d (.ref q)))) ∧ A' 96 = A 96 := by
  have q96 : q ≠ A 96 := fun e => by rw [e, w.a96 h0] at hq; cases hq
  have hset' : (gFl A d).set d (.ref q) = gFl (up A d q) (d + 1) := gFl_setV hd (by unfold fV; rw [hfk]; show Value.ref (up A d q d) = _; rw [up_same]) (fk_keep (q := q) hd hfk (fun j hj => up_ne hj))
  refine ⟨up A d q, up P 96 (Ob 11 (gFl (up A d q) (d + 1))), w.ext h0 (fun k hk => up_ne fun e => ?_) (fun k _ hk => up_ne hk) (fun k hk ho => ?_) (fun k k' hk hk' ho ho' _ => ?_) (up_same _ _ _) ?_ (fun a ha hn => ?_), up_ne (by omega)⟩
  · subst e
    have := hk.2
    rw [own_lt hd] at this
    omega
  · have e := own_1 h0 hd hs hk ho
    subst e
    rw [up_same]
    refine ⟨hq, ?_⟩
    rw [hset_ne q96, hset_self]
    unfold cel
    rw [if_neg (by rw [hpd]; decide), hc]
  · rw [own_1 h0 hd hs hk ho, own_1 h0 hd hs hk' ho']
  · rw [hset_self, up_same, hset']
  · rw [hset_ne ha]
    have := hn d hkd (own_lt hd)
    rw [up_same] at this
    rw [hset_ne (fun e => this e.symm)]
/-- a field of ints -/
theorem PI.skip (w : PI pd A P d X h) (h0 : 0 < d) (hd : d < 96) (hs : spB d = false) (hfk : fkL.getD d none = none) (h78 : d ≠ 78) (hkd : (kdM d).1 = 0) : PI pd A P (d + 1) X h := by
  have no : ∀ k, (kdM k).1 ≠ 0 → ownF k = d → False := fun k hk ho => by
    have e := own_1 h0 hd hs hk ho
    subst e
    exact hk hkd
  exact w.ext h0 (fun _ _ => rfl) (fun _ _ _ => rfl) (fun k hk ho => (no k hk ho).elim) (fun k _ hk _ ho _ _ => (no k hk ho).elim) (by rw [w.2.2.2.1, gFl_skip hfk h78]) (by rw [w.a96 h0, w.2.2.2.1]) (fun _ _ _ => rfl)
theorem PI.fuse (w : PI pd A P 78 X h) : ∃ P', PI pd A P' 79 X (hset h (A 96) (Ob 11 ((gFl A 78).set 78 (.int (-1))))) := by
  have no : ∀ k, (kdM k).1 ≠ 0 → ownF k = 78 → False := fun k hk ho => by
    have e := own_1 (by decide) (by decide) (by decide) hk ho
    subst e
    exact hk rfl
  have hset' : (gFl A 78).set 78 (.int (-1)) = gFl A 79 := gFl_setV (by decide) rfl (fun _ _ _ _ => rfl)
  exact ⟨up P 96 (Ob 11 (gFl A 79)), w.ext (by decide) (fun _ _ => rfl) (fun k _ hk => up_ne hk) (fun k hk ho => (no k hk ho).elim) (fun k _ hk _ ho _ _ => (no k hk ho).elim) (up_same _ _ _) (by rw [hset_self, up_same, hset']) (fun a ha _ => hset_ne ha)⟩
end PIt
