set_option maxRecDepth 100000
/-! the reference's constructor: the world that it leaves -/
theorem own_132 {k : Nat} (hk : (kdM k).1 ≠ 0) : KI 132 k := by
  refine ⟨hk, ?_⟩
  have h1 : ∀ s, s < 31 → sfO s < 132 := by decide +kernel
  have h2 : ∀ s, s < 8 → mfO s < 132 := by decide +kernel
  rcases own_all hk with ⟨y, z⟩ | ⟨-, z⟩ | ⟨s, hs, -, z⟩ | ⟨j, hj, -, z⟩ | ⟨j, hj, -, z⟩ | ⟨j, hj, -, z⟩
  · omega
  · omega
  · have := h1 s hs; omega
  · have := h2 j hj; omega
  · omega
  · omega
theorem ArE.rfl' (h : AH) : ArE h h := fun a => Or.inl rfl
theorem ArE.set {h h' : AH} (e : ArE h h') {a t n : Nat} {f f' : Nat → Option Nat} (ha : h' a = some (Ar t n f)) (hf : ∀ j, j < n → f j = f' j) : ArE h (hset h' a (Ar t n f')) := by
  intro q
  by_cases c : q = a
  · subst c
    rw [hset_self]
    rcases e q with z | ⟨t1, n1, f1, f2, z1, z2, z3⟩
    · exact Or.inr ⟨t, n, f, f', z.symm.trans ha, rfl, hf⟩
    · rw [ha] at z2
      cases z2
      exact Or.inr ⟨t, n, f1, f', z1, rfl, fun j hj => (z3 j hj).trans (hf j hj)⟩
  · rw [hset_ne c]
    exact e q
def S00 (k : Nat) : List Int32 := if k = 63 then List.replicate 192 0 else if k = 73 then List.replicate 5880 0 else if k = 76 then List.replicate 4096 0 else []
noncomputable def R00 (k : Nat) : Nat := if k = 200 then V 12 (cpN 12 gGX fun _ => 0) else if k = 300 then V 12 (cpN 12 gGY fun _ => 0) else 0
theorem PL_zero (n : Nat) : PL (fun _ => 0) (List.replicate n 0) := fun j hj => by
  rw [List.length_replicate] at hj
  rw [List.getD_eq_getElem?_getD, List.getElem?_replicate, if_pos hj]
  rfl
theorem V_zero (n : Nat) : V n (fun _ => 0) = 0 := by
  induction n with
  | zero => rfl
  | succ n ih =>
    show V n (fun _ => 0) + u32 0 * 2 ^ (32 * n) = 0
    rw [ih]
    show 0 + 0 * 2 ^ (32 * n) = 0
    omega
theorem WC_dA {d : KD} {s : List Int32} {c : AC} (h7 : d.1 ≤ 6) (h0 : d.1 ≠ 0) (h1 : d.1 = 1 → d.2.1 = 0 ∧ d.2.2 = 12) (h2 : d.1 = 2 → d.2.1 = 0) (hs : ∃ m, s = List.replicate m 0 ∧ (d.1 = 6 → m ≤ d.2.2)) : WC 0 (fun _ => 0) s c d (some (dA d)) := by
  obtain ⟨κ, t, n⟩ := d
  obtain ⟨m, rfl, hm⟩ := hs
  have h7 : κ ≤ 6 := h7
  have h0 : κ ≠ 0 := h0
  obtain rfl | rfl | rfl | rfl | rfl | rfl : κ = 1 ∨ κ = 2 ∨ κ = 3 ∨ κ = 4 ∨ κ = 5 ∨ κ = 6 := by omega
  · obtain ⟨rfl, rfl⟩ : t = 0 ∧ n = 12 := h1 rfl
    exact ⟨_, rfl, V_zero 12, by decide⟩
  · obtain rfl : t = 0 := h2 rfl
    exact ⟨_, rfl, V_zero n⟩
  · rfl
  · exact ⟨_, rfl⟩
  · exact ⟨_, rfl⟩
  · exact ⟨_, rfl, PL_zero m, by rw [List.length_replicate]; exact hm rfl⟩
theorem S00_z (k : Nat) : ∃ m, S00 k = List.replicate m 0 ∧ ((kdM k).1 = 6 → m ≤ (kdM k).2.2) := by
  unfold S00
  by_cases c1 : k = 63
  · subst c1; exact ⟨192, rfl, fun _ => by decide⟩
  · rw [if_neg c1]
    by_cases c2 : k = 73
    · subst c2; exact ⟨5880, rfl, fun _ => by decide⟩
    · rw [if_neg c2]
      by_cases c3 : k = 76
      · subst c3; exact ⟨4096, rfl, fun _ => by decide⟩
      · rw [if_neg c3]; exact ⟨0, rfl, fun _ => Nat.zero_le _⟩
