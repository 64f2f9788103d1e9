set_option maxRecDepth 100000
/-! every call keeps what the state lives by: retiring -/
section WF4
variable {N : Nat → Nat} {L : Nat → List Int32}
theorem Wf.liv (wf : Wf N L) {i : Nat} (hi : i < 6) : Wf (up N (110 + i) 0) L := by
  obtain ⟨a0, a1, a2, a3, a4, a5, a6, b0, b1, b2, c0, c1, c2, d1, d2⟩ := wf
  refine ⟨by rw [up_ne (by omega)]; exact a0, by rw [up_ne (by omega)]; exact a1, by rw [up_ne (by omega)]; exact a2, by rw [up_ne (by omega)]; exact a3, by rw [up_ne (by omega)]; exact a4, by rw [up_ne (by omega)]; exact a5, by rw [up_ne (by omega)]; exact a6, b0, b1, b2, c0, c1, c2, fun k hk => ?_, fun a ha => ?_⟩
  · rw [up_ne (by omega)] at hk
    have := d1 k hk
    unfold KOk at this ⊢
    rw [up_ne (show 100 + k ≠ 110 + i by omega), up_ne (show 120 + k ≠ 110 + i by omega), up_ne (show 130 + k ≠ 110 + i by omega), up_ne (show 140 + k ≠ 110 + i by omega), up_ne (show 150 + k ≠ 110 + i by omega), up_ne (show 160 + k ≠ 110 + i by omega)]
    refine ⟨?_, this.2⟩
    by_cases e : k = i
    · subst e; rw [up_same]; decide
    · rw [up_ne (by omega)]; exact this.1
  · rw [up_ne (by omega)] at ha
    have := d2 a ha
    have hq : N (200 + a) < 6 := Nat.lt_of_lt_of_le this.1 a0
    unfold AOk at this ⊢
    rw [up_ne (show 200 + a ≠ 110 + i by omega), up_ne (show 0 ≠ 110 + i by omega), up_ne (show 300 + a ≠ 110 + i by omega), up_ne (show 400 + a ≠ 110 + i by omega), up_ne (show 100 + N (200 + a) ≠ 110 + i by omega), up_ne (show 130 + N (200 + a) ≠ 110 + i by omega)]
    exact this
theorem sRetire_wf (wf : Wf N L) (k : Int32) : WfO (sRetire N L k) := by
  unfold sRetire
  split
  · exact wf.n6 (by decide)
  · rename_i hc
    obtain ⟨j, hj, rfl⟩ := noK_ex wf.1 hc
    have h6 := wf.1
    refine (wf.n6 (by decide)).liv ?_
    rw [nI_clamp (by omega)]
    omega
end WF4
