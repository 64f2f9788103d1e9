set_option maxRecDepth 100000
/-! the reference's constructor: up to pc 870 -/
theorem jump1 : ∀ k, (kdM k).1 ≠ 0 → ownF k < 100 → ownF k < 96 := fun k hk ho => by
  have h1 : ∀ s, s < 31 → sfO s < 100 → sfO s < 96 := by decide +kernel
  have h2 : ∀ s, s < 8 → mfO s < 100 → mfO s < 96 := by decide +kernel
  rcases own_all hk with ⟨y, z⟩ | ⟨-, z⟩ | ⟨s, hs, -, z⟩ | ⟨j, hj, -, z⟩ | ⟨j, hj, -, z⟩ | ⟨j, hj, -, z⟩
  · omega
  · omega
  · rw [z] at ho ⊢; exact h1 s hs ho
  · rw [z] at ho ⊢; exact h2 j hj ho
  · omega
  · omega
theorem jump2 : ∀ k, (kdM k).1 ≠ 0 → ownF k < 120 → ownF k < 116 := fun k hk ho => by
  have h1 : ∀ s, s < 31 → sfO s < 120 → sfO s < 116 := by decide +kernel
  have h2 : ∀ s, s < 8 → mfO s < 120 → mfO s < 116 := by decide +kernel
  rcases own_all hk with ⟨y, z⟩ | ⟨-, z⟩ | ⟨s, hs, -, z⟩ | ⟨j, hj, -, z⟩ | ⟨j, hj, -, z⟩ | ⟨j, hj, -, z⟩
  · omega
  · omega
  · rw [z] at ho ⊢; exact h1 s hs ho
  · rw [z] at ho ⊢; exact h2 j hj ho
  · omega
  · omega
section PIz
variable {g : GX} {Q : Outcome → AH → Prop} {A : Nat → Nat} {P : Nat → AC} {X h : AH} {a0 : Nat}
set_option maxHeartbeats 2000000 in
theorem initA (w : PI pd0 A P 1 X h) (ha : A 96 = a0) (kk : ∀ A h', MW A X R00 (fun _ _ => 0) S00 F00 h' → A 96 = a0 → XX g MX10_init ({ frames := 2, cells := 256, slots := 26510, locals := 46 } : Room) Q 256 26510 870 [(1, .int 6), (0, .ref a0)] [] h') : XX g MX10_init ({ frames := 2, cells := 256, slots := 26510, locals := 46 } : Room) Q 0 0 4 [(0, .ref a0)] [] h := by
  refine initW w ha (fun A P h w ha => ?_)
  refine initM w ha (fun P h w hP => ?_)
  obtain ⟨q1, q2, q3, q4, q5, q6, q7, q8, q9, q10, q11, q12⟩ := hP
  have w := w.jump (by decide) (d' := 100) (by decide) jump1
  refine X_iconst (pc := 790) (x := 0) dX10_init_790 (by decide) ?_
  refine X_istore_n (pc := 791) (L' := [(1, .int _), (0, .ref _)]) dX10_init_791 rfl (Nat.le_of_ble_eq_true rfl) rfl ?_
  refine initL1 (A0 := A) (P0 := P) (fun A1 P1 h1 w1 ha1 hq pk ak => ?_) 8 0 (by omega) A P h w ha (by rw [fR_0]; exact q9) (by rw [fR_0]; exact q10) (fun _ _ _ _ => rfl) (fun _ _ => rfl)
  have w1 := w1.jump (by decide) (d' := 120) (by decide) jump2
  refine X_iconst (pc := 830) (x := 0) dX10_init_830 (by decide) ?_
  refine X_istore_n (pc := 831) (L' := [(1, .int _), (0, .ref _)]) dX10_init_831 rfl (Nat.le_of_ble_eq_true rfl) rfl ?_
  refine initL2 (A0 := A1) (P0 := P1) (fun A2 P2 h2 w2 ha2 hq2 pk2 ak2 => ?_) 6 0 (by omega) A1 P1 h1 w1 ha1 (by rw [fR_0, pk 65 (by decide) (by decide) (by decide)]; exact q11) (by rw [fR_0, pk 66 (by decide) (by decide) (by decide)]; exact q12) (fun _ _ _ _ => rfl) (fun _ _ => rfl)
  have kA : ∀ k, KI 100 k → A2 k = A k := fun k hk => (ak2 k ⟨hk.1, Nat.lt_of_lt_of_le hk.2 (by decide)⟩).trans (ak k hk)
  have kP : ∀ k, 100 ≤ k → P2 k = P k := fun k hk => by rw [pk2 k (by omega) (by omega) (by omega), pk k (by omega) (by omega) (by omega)]
  have a10 : ∀ j, j < 2 → A2 (510 + j) = A (510 + j) ∧ A2 (520 + j) = A (520 + j) := fun j hj => by
    have h0 : ∀ j, j < 2 → mfO j < 100 := by decide +kernel
    obtain ⟨-, n2, n3⟩ := kdM_mod (j := j) (by omega)
    obtain ⟨-, o2, o3⟩ := own_m (j := j) (by omega)
    exact ⟨kA _ ⟨n2, by rw [o2]; exact h0 j hj⟩, kA _ ⟨n3, by rw [o3]; exact h0 j hj⟩⟩
  obtain ⟨h3, e3, mw⟩ := w2.toMW ⟨by rw [kP 500 (by decide), q1, ← (a10 0 (by decide)).1, ← (a10 0 (by decide)).2], by rw [kP 510 (by decide), q2], by rw [kP 520 (by decide), q3], by rw [kP 501 (by decide), q4, ← (a10 1 (by decide)).1, ← (a10 1 (by decide)).2], by rw [kP 511 (by decide), q5], by rw [kP 521 (by decide), q6], by rw [kP 200 (by decide), q7], by rw [kP 300 (by decide), q8]⟩
    (by rw [pk2 48 (by decide) (by decide) (by decide), hq.1, fR_cg (A' := A2) (A := A1) (fun j hj => by
      rw [show 409 + j = 400 + (9 + j) by omega]
      exact ak2 _ (KI_sp (by omega) (by rw [(sf9 j hj).1]; omega)))])
    (by rw [pk2 49 (by decide) (by decide) (by decide), hq.2, fR_cg (A' := A2) (A := A1) (fun j hj => by
      rw [show 417 + j = 400 + (17 + j) by omega]
      exact ak2 _ (KI_sp (by omega) (by rw [(sf9 j hj).2]; omega)))])
    hq2.1 hq2.2
  exact XX.arf e3 (kk A2 h3 mw ha2)
end PIz
