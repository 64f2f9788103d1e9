set_option maxRecDepth 100000
/-! every call keeps what the state lives by: spending (what is written is counted by the slots that are taken) -/
section WF9
variable {N : Nat → Nat} {L : Nat → List Int32}
/-- the numbers of writes and of tokens spent -/
def Cnt (N : Nat → Nat) (L : Nat → List Int32) : Prop := N 2 = spentN (L 2) ∧ N 4 = spentN (L 2)
theorem putS_len (d : List Int32) (k : Nat) (T : List Int32) : (putS d k T).length = d.length := by unfold putS; rw [List.length_map, List.length_range]
theorem putS_at {d : List Int32} {k : Nat} {T : List Int32} {j : Nat} (hj : j < d.length) : (putS d k T).getD j 0 = if j = slotN k + 3 then 1 else if slotN k + 4 ≤ j ∧ j < slotN k + 36 then T.getD (2 + (j - (slotN k + 4))) 0 else d.getD j 0 := by
  unfold putS
  rw [getD_map_range hj]
theorem slot_apart {i k : Nat} (hi : i < 112) (hk : k < 112) (h : i ≠ k) {j : Nat} (hj : j < 36) : slotN i + j < slotN k ∨ slotN k + 36 ≤ slotN i + j := by
  unfold slotN
  have h1 := Nat.div_add_mod i 14
  have h2 := Nat.div_add_mod k 14
  have h3 := Nat.mod_lt i (show 14 > 0 by decide)
  have h4 := Nat.mod_lt k (show 14 > 0 by decide)
  rcases Nat.lt_trichotomy (i / 14) (k / 14) with c | c | c
  · exact Or.inl (by omega)
  · rcases Nat.lt_trichotomy (i % 14) (k % 14) with e | e | e
    · exact Or.inl (by omega)
    · omega
    · exact Or.inr (by omega)
  · exact Or.inr (by omega)
theorem putS_free {d : List Int32} (hl : d.length = 4096) {k : Nat} (hk : k < 112) (T : List Int32) {i : Nat} (hi : i < 112) : freeS (putS d k T) i = if i = k then false else freeS d i := by
  have hs : slotN i + 36 ≤ 4096 := by unfold slotN; omega
  by_cases e : i = k
  · subst e
    rw [if_pos rfl]
    unfold freeS
    rw [putS_at (j := slotN i + 3) (by omega), if_pos rfl]
    simp
  · rw [if_neg e]
    have at' : ∀ j, j < 4 → (putS d k T).getD (slotN i + j) 0 = d.getD (slotN i + j) 0 := fun j hj => by
      have := slot_apart hi hk e (j := j) (by omega)
      rw [putS_at (by omega), if_neg (by omega), if_neg (by omega)]
    unfold freeS
    rw [show (putS d k T).getD (slotN i) 0 = d.getD (slotN i) 0 from at' 0 (by decide), at' 1 (by decide), at' 2 (by decide), at' 3 (by decide)]
theorem cntN_up {p q : Nat → Bool} {k : Nat} (hq : q k = true) (hp : p k = false) (he : ∀ i, i ≠ k → q i = p i) : ∀ n, cntN q n = cntN p n + (if k < n then 1 else 0)
  | 0 => rfl
  | n + 1 => by
    have ih := cntN_up hq hp he n
    show cntN q n + (if q n then 1 else 0) = cntN p n + (if p n then 1 else 0) + _
    by_cases e : n = k
    · subst e
      rw [ih, hq, hp, if_neg (Nat.lt_irrefl n), if_pos (Nat.lt_succ_self n)]
      rfl
    · have e1 : (if k < n + 1 then 1 else 0) = (if k < n then 1 else 0) := by
        by_cases c : k < n
        · rw [if_pos c, if_pos (by omega)]
        · rw [if_neg c, if_neg (by omega)]
      rw [ih, he n e, e1, Nat.add_right_comm]
theorem cntN_cg {p q : Nat → Bool} : ∀ n, (∀ i, i < n → q i = p i) → cntN q n = cntN p n
  | 0, _ => rfl
  | n + 1, h => by
    show cntN q n + (if q n then 1 else 0) = cntN p n + (if p n then 1 else 0)
    rw [cntN_cg n (fun i hi => h i (by omega)), h n (by omega)]
theorem spent_put {d : List Int32} (hl : d.length = 4096) {k : Nat} (hk : k < 112) (hf : freeS d k = true) (T : List Int32) : spentN (putS d k T) = spentN d + 1 := by
  have h1 : spentN (putS d k T) = cntN (fun i => if i = k then true else !freeS d i) 112 := cntN_cg 112 (fun i hi => by
    show (!freeS (putS d k T) i) = _
    rw [putS_free hl hk T hi]
    by_cases e : i = k
    · rw [if_pos e, if_pos e]; rfl
    · rw [if_neg e, if_neg e])
  rw [h1, cntN_up (p := fun i => !freeS d i) (k := k) (if_pos rfl) (by show (!freeS d k) = false; rw [hf]; rfl) (fun i hi => if_neg hi) 112, if_pos hk]
  rfl
end WF9
