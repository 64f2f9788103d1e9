set_option maxRecDepth 100000
/-! the first state -/
def N0 : Nat → Nat := fun _ => 0
def L0 (k : Nat) : List Int32 := if k = 2 then List.replicate 4096 0 else []
theorem IsB_zero (n : Nat) : IsB (List.replicate n 0) := fun x hx => by
  rw [List.eq_of_mem_replicate hx]
  decide
theorem m3_fp : fp (pP - 3) = -3 := by decide +kernel
theorem m12_fp : fp (pP - 12) = -12 := by decide +kernel
theorem gx_is : V 12 (cpN 12 gGX fun _ => 0) = gxN := by decide +kernel
theorem gy_is : V 12 (cpN 12 gGY fun _ => 0) = gyN := by decide +kernel
theorem MS_0 {R : Nat → Nat} (h1 : ∀ j, j ≠ 14 → j ≠ 16 → j ≠ 44 → j ≠ 45 → R j = R00 j) (h2 : R 16 = eP) (h3 : R 44 = pP - 3) (h4 : R 45 = pP - 12) : MS N0 L0 R (fun _ _ => 0) S00 F00 := by
  refine ⟨⟨h2, by rw [h3]; exact m3_fp, by rw [h4], by rw [h4]; exact m12_fp, ?_, rfl, rfl⟩, rfl, rfl, rfl, rfl, rfl, ?_, IsB_zero 192, ?_, IsB_zero 5880, rfl, rfl, rfl, rfl, rfl, rfl, rfl, fun k hk => absurd hk (Nat.not_lt_zero k), fun k hk => absurd hk (Nat.not_lt_zero k)⟩
  · unfold spt
    rw [if_pos (show F00 (400 + 0) = 0 from rfl), h1 (200 + 0) (by decide) (by decide) (by decide) (by decide), h1 (300 + 0) (by decide) (by decide) (by decide) (by decide)]
    show some (fp (V 12 (cpN 12 gGX fun _ => 0)), fp (V 12 (cpN 12 gGY fun _ => 0))) = GP
    rw [gx_is, gy_is]
  · exact List.length_replicate
  · exact List.length_replicate
theorem Wf_0 : Wf N0 L0 := by
  refine ⟨Nat.zero_le _, Nat.zero_le _, by decide, Nat.zero_le _, by decide, Nat.zero_le _, Nat.zero_le _, Nat.zero_le _, Nat.zero_le _, List.length_replicate, fun x hx => (by cases hx), fun x hx => (by cases hx), IsB_zero 4096, fun k hk => absurd hk (Nat.not_lt_zero k), fun k hk => absurd hk (Nat.not_lt_zero k)⟩
section MId
variable {h : AH} {a0 : Nat}
theorem minit_ok (g : GX) (ha : h a0 = some (Ob 11 (gFl (fun _ => a0) 1))) : MT g MX10_init ({ frames := 2, cells := 256, slots := 26510, locals := 46 } : Room) [.ref a0] h (RV fun h' => ∃ A, A 96 = a0 ∧ MRep N0 L0 A h h') :=
  MT.mono (initC g ha) (fun o h' q => by
    obtain ⟨e, A, R, e1, w, e2, e3, e4, e5⟩ := q
    exact ⟨e, A, e1, R, _, _, _, w, MS_0 e2 e3 e4 e5⟩)
end MId
