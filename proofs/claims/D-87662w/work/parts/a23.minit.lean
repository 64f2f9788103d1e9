set_option maxRecDepth 100000
/-! the reference's constructor, whole, but for what its numbers mean -/
theorem KI_1 {k : Nat} (h : KI 1 k) : k = 96 := by
  have hk := h.2
  rcases own_all h.1 with ⟨y, z⟩ | ⟨y, -⟩ | ⟨s, hs, -, z⟩ | ⟨j, hj, -, z⟩ | ⟨j, hj, -, z⟩ | ⟨j, hj, -, z⟩
  · exfalso
    have e : k = 0 := by omega
    subst e
    exact h.1 rfl
  · exact y
  · have := (sfO_g s hs).2.2; omega
  · have := (mfO_g j hj).2.2; omega
  · omega
  · omega
section MIc
variable {h : AH} {a0 : Nat}
theorem PI.start (ha : h a0 = some (Ob 11 (gFl (fun _ => a0) 1))) : PI pd0 (fun _ => a0) (fun _ => Ob 11 (gFl (fun _ => a0) 1)) 1 h h :=
  ⟨fun k k' hk hk' _ => by rw [KI_1 hk, KI_1 hk'], fun k hk => by rw [KI_1 hk]; exact ha, fun a _ => rfl, rfl, rfl⟩
theorem initC (g : GX) (ha : h a0 = some (Ob 11 (gFl (fun _ => a0) 1))) : MT g MX10_init ({ frames := 2, cells := 256, slots := 26510, locals := 46 } : Room) [.ref a0] h (RV fun h' => ∃ A R, A 96 = a0 ∧ MW A h R (fun _ _ => 0) S00 F00 h' ∧ (∀ j, j ≠ 14 → j ≠ 16 → j ≠ 44 → j ≠ 45 → R j = R00 j) ∧ R 16 = eP ∧ R 44 = pP - 3 ∧ R 45 = pP - 12) := by
  refine MT.of (by decide) (Nat.le_of_ble_eq_true rfl) ?_
  refine X_aload_n (pc := 0) 0 dX10_init_0 rfl rfl ?_
  refine X_objInit (pc := 1) dX10_init_1 q1330 q131 q132 (Nat.le_of_ble_eq_true rfl) (Nat.le_of_ble_eq_true rfl) ?_
  refine initA (PI.start ha) rfl (fun A h' w e => ?_)
  subst e
  exact initB w (fun R' h'' w' e1 e2 e3 e4 => ⟨rfl, A, R', rfl, w', e1, e2, e3, e4⟩)
end MIc
