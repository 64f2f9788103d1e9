set_option maxRecDepth 100000
/-! the constructor's steps: a field with an array of arrays -/
section PIv
variable {pd : Nat → Bool} {A A' : Nat → Nat} {P P' : Nat → AC} {d : Nat} {X h h' : AH}
/-- the rows as the heap has them -/
def hgrid (h : AH) (q N : Nat) : AH := fun a => if a = q then some (Ar 8 N (fun j => if j < N then some (q + 1 + j) else none)) else hrows h q N 64 a
theorem hgrid_ArE (h : AH) (q N : Nat) : ArE (hrows h q N 64) (hgrid h q N) := by
  intro a
  unfold hgrid
  by_cases e : a = q
  · subst e
    exact Or.inr ⟨8, N, _, _, hrows_q _ _ _ _, if_pos rfl, fun j hj => by rw [if_pos hj]⟩
  · exact Or.inl (if_neg e)
theorem PI.grid (w : PI pd A P d X h) (h96 : d < 96) {N b : Nat} (hdN : (d = 64 ∧ N = 6 ∧ b = 530) ∨ (d = 74 ∧ N = 60 ∧ b = 600)) (hp : ∀ k, k = d ∨ (b ≤ k ∧ k < b + N) → pd k = false) {q : Nat} (hq : ∀ a, q ≤ a → h a = none) :
    ∃ A' P', PI pd A' P' (d + 1) X (hset (hgrid h q N) (A 96) (Ob 11 ((gFl A d).set d (.ref q)))) ∧ A' 96 = A 96 := by
  have h0 : 0 < d := by omega
  have hfk : fkL.getD d none = some d := by rcases hdN with ⟨rfl, -, -⟩ | ⟨rfl, -, -⟩ <;> rfl
  have nd : (kdM d).1 ≠ 0 := by rcases hdN with ⟨rfl, -, -⟩ | ⟨rfl, -, -⟩ <;> decide
  have nj : ∀ j, j < N → (kdM (b + j)).1 ≠ 0 ∧ ownF (b + j) = d := by
    intro j hj
    rcases hdN with ⟨rfl, rfl, rfl⟩ | ⟨rfl, rfl, rfl⟩
    · exact ⟨kdM_530 hj, by rw [own_g (Or.inl (by omega)), if_pos (by omega)]⟩
    · exact ⟨kdM_600 hj, by rw [own_g (Or.inr (by omega)), if_neg (by omega)]⟩
  have hall : ∀ k, (kdM k).1 ≠ 0 → ownF k = d → k = d ∨ ∃ j, j < N ∧ k = b + j := by
    intro k hk ho
    rcases own_all hk with ⟨-, z⟩ | ⟨-, z⟩ | ⟨s, hs', -, z⟩ | ⟨j, hj, -, z⟩ | ⟨j, hj, e, z⟩ | ⟨j, hj, e, z⟩
    · exact Or.inl (by omega)
    · omega
    · have := sfO_g s hs'; omega
    · have := mfO_g j hj; omega
    · rcases hdN with ⟨rfl, rfl, rfl⟩ | ⟨rfl, rfl, rfl⟩
      · exact Or.inr ⟨j, hj, e⟩
      · omega
    · rcases hdN with ⟨rfl, rfl, rfl⟩ | ⟨rfl, rfl, rfl⟩
      · omega
      · exact Or.inr ⟨j, hj, e⟩
  have hb : 97 ≤ b := by omega
  have a96 : A 96 < q := by
    apply Nat.lt_of_not_le
    intro z
    have := hq _ z
    rw [w.a96 h0] at this
    cases this
  obtain ⟨A1, hA1⟩ : ∃ A1 : Nat → Nat, A1 = fun k => if k = d then q else if b ≤ k ∧ k < b + N then q + 1 + (k - b) else A k := ⟨_, rfl⟩
  have ad : A1 d = q := by rw [hA1]; exact if_pos rfl
  have aj : ∀ j, j < N → A1 (b + j) = q + 1 + j := fun j hj => by
    rw [hA1]
    show (if b + j = d then q else if b ≤ b + j ∧ b + j < b + N then q + 1 + (b + j - b) else A (b + j)) = _
    rw [if_neg (by omega), if_pos (by omega), show b + j - b = j by omega]
  have ak : ∀ k, k ≠ d → ¬ (b ≤ k ∧ k < b + N) → A1 k = A k := fun k h1 h2 => by
    rw [hA1]
    show (if k = d then q else if b ≤ k ∧ k < b + N then q + 1 + (k - b) else A k) = _
    rw [if_neg h1, if_neg h2]
  have keep : ∀ k, KI d k → A1 k = A k := fun k hk => ak k (fun e => by have := hk.2; rw [e, own_lt h96] at this; omega) (fun e => by
    obtain ⟨j, rfl⟩ : ∃ j, k = b + j := ⟨k - b, by omega⟩
    have := hk.2
    rw [(nj j (by omega)).2] at this
    omega)
  have hset' : (gFl A d).set d (.ref q) = gFl A1 (d + 1) := by
    refine gFl_setV h96 (by unfold fV; rw [hfk]; show Value.ref (A1 d) = _; rw [ad]) (fun i k hi hk => ?_)
    have hk4 : ∀ i, i < 96 → ∀ k ∈ fkL.getD i none, k < 97 ∨ (400 ≤ k ∧ k < 431) ∨ (500 ≤ k ∧ k < 510) := by decide +kernel
    have hr := hk4 i (by omega) k (by rw [hk]; rfl)
    refine ak k (fun e => ?_) (by omega)
    have := fkL_inj i (by omega) d h96 (by rw [hk]; exact fun z => by cases z) (by rw [hk, hfk, e])
    omega
  have hold : ∀ a, a ≠ q → (∀ j, j < N → a ≠ q + 1 + j) → hgrid h q N a = h a := by
    intro a e1 e2
    unfold hgrid
    rw [if_neg e1]
    refine hrows_out ?_
    by_cases c : a < q
    · exact Or.inl c
    · refine Or.inr (Nat.lt_of_not_le fun z => ?_)
      exact e2 (a - q - 1) (by omega) (by omega)
  refine ⟨A1, up P 96 (Ob 11 (gFl A1 (d + 1))), w.ext h0 keep (fun k _ hk => up_ne hk) (fun k hk ho => ?_) (fun k k' hk hk' ho ho' e => ?_) (up_same _ _ _) ?_ (fun a ha hn => ?_), ak 96 (by omega) (by omega)⟩
  · rcases hall k hk ho with rfl | ⟨j, hj, rfl⟩
    · rw [ad]
      refine ⟨hq q (Nat.le_refl q), ?_⟩
      rw [hset_ne (by omega)]
      unfold cel
      rw [if_neg (by rw [hp k (Or.inl rfl)]; decide)]
      unfold hgrid
      rw [if_pos rfl]
      congr 1
      rcases hdN with ⟨rfl, rfl, rfl⟩ | ⟨rfl, rfl, rfl⟩
      · show Ar 8 6 _ = Ar 8 6 _
        congr 1
        funext j
        by_cases hj : j < 6
        · rw [if_pos hj, if_pos hj, aj j hj]
        · rw [if_neg hj, if_neg hj]
      · show Ar 8 60 _ = Ar 8 60 _
        congr 1
        funext j
        by_cases hj : j < 60
        · rw [if_pos hj, if_pos hj, aj j hj]
        · rw [if_neg hj, if_neg hj]
    · rw [aj j hj]
      refine ⟨hq _ (by omega), ?_⟩
      rw [hset_ne (by omega)]
      unfold cel hgrid
      rw [if_neg (by omega), hrows_in hj, if_neg (by rw [hp (b + j) (Or.inr (by omega))]; decide)]
      congr 1
      unfold dO
      have hk3 : (∀ j, j < 6 → kdM (530 + j) = (3, 0, 64)) ∧ ∀ j, j < 60 → kdM (600 + j) = (3, 0, 64) := by decide +kernel
      have hkd : kdM (b + j) = (3, 0, 64) := by
        rcases hdN with ⟨rfl, rfl, rfl⟩ | ⟨rfl, rfl, rfl⟩
        · exact hk3.1 j hj
        · exact hk3.2 j hj
      rw [if_neg (by omega), if_neg (by omega), if_neg (by omega), if_neg (by omega), if_neg (by omega), if_neg (by omega), if_neg (by omega), if_neg (by omega), hkd]
      rfl
  · rcases hall k hk ho with rfl | ⟨j, hj, rfl⟩
    · rcases hall k' hk' ho' with rfl | ⟨j', hj', rfl⟩
      · rfl
      · rw [ad, aj j' hj'] at e
        omega
    · rcases hall k' hk' ho' with rfl | ⟨j', hj', rfl⟩
      · rw [ad, aj j hj] at e
        omega
      · rw [aj j hj, aj j' hj'] at e
        omega
  · rw [hset_self, up_same, hset']
  · rw [hset_ne ha]
    refine hold a (fun e => ?_) (fun j hj e => ?_)
    · have := hn d nd (own_lt h96)
      rw [ad] at this
      exact this e.symm
    · have := hn (b + j) (nj j hj).1 (nj j hj).2
      rw [aj j hj] at this
      exact this e.symm
end PIv
