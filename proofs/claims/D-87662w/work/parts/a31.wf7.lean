set_option maxRecDepth 100000
/-! every call keeps what the state lives by: tokens -/
section WF7
variable {N : Nat → Nat} {L : Nat → List Int32}
theorem Wf.opn (wf : Wf N L) {i : Nat} (hi : i < 60) : Wf (up N (300 + i) 0) L := by
  obtain ⟨a0, a1, a2, a3, a4, a5, a6, b0, b1, b2, c0, c1, c2, d1, d2⟩ := wf
  refine ⟨by rw [up_ne (by omega)]; exact a0, by rw [up_ne (by omega)]; exact a1, by rw [up_ne (by omega)]; exact a2, by rw [up_ne (by omega)]; exact a3, by rw [up_ne (by omega)]; exact a4, by rw [up_ne (by omega)]; exact a5, by rw [up_ne (by omega)]; exact a6, b0, b1, b2, c0, c1, c2, fun k hk => ?_, fun a ha => ?_⟩
  · rw [up_ne (by omega)] at hk
    have := d1 k hk
    unfold KOk at this ⊢
    rw [up_ne (show 100 + k ≠ 300 + i by omega), up_ne (show 110 + k ≠ 300 + i by omega), up_ne (show 120 + k ≠ 300 + i by omega), up_ne (show 130 + k ≠ 300 + i by omega), up_ne (show 140 + k ≠ 300 + i by omega), up_ne (show 150 + k ≠ 300 + i by omega), up_ne (show 160 + k ≠ 300 + i by omega)]
    exact this
  · rw [up_ne (by omega)] at ha
    have := d2 a ha
    have hq : N (200 + a) < 6 := Nat.lt_of_lt_of_le this.1 a0
    unfold AOk at this ⊢
    rw [up_ne (show 200 + a ≠ 300 + i by omega), up_ne (show 0 ≠ 300 + i by omega), up_ne (show 400 + a ≠ 300 + i by omega), up_ne (show 100 + N (200 + a) ≠ 300 + i by omega), up_ne (show 130 + N (200 + a) ≠ 300 + i by omega)]
    refine ⟨this.1, ?_, this.2.2⟩
    by_cases e : a = i
    · subst e; rw [up_same]; decide
    · rw [up_ne (by omega)]; exact this.2.1
theorem Wf.shut (wf : Wf N L) {a : Nat} : ∀ n, a + n ≤ 60 → Wf (shut N a n) L
  | 0, _ => wf
  | n + 1, h => (Wf.shut wf n (by omega)).opn (i := a + n) (by omega)
theorem catT_ok (N : Nat → Nat) (T : List Int32) {a : Nat} : ∀ n, (∀ i, i < n → (L (200 + (a + i))).length = 98 ∧ IsB (L (200 + (a + i)))) → (catT N L T a n).length = 146 * n ∧ IsB (catT N L T a n)
  | 0, _ => ⟨rfl, fun x hx => by cases hx⟩
  | n + 1, h => by
    obtain ⟨i1, i2⟩ := catT_ok N T n (fun i hi => h i (by omega))
    obtain ⟨j1, j2⟩ := h n (by omega)
    have hl : (outB (L (200 + (a + n))) (tokP N T a n)).length = 48 := sha384_len _
    refine ⟨?_, (i2.app j2).app (sha384_B _)⟩
    show (catT N L T a n ++ L (200 + (a + n)) ++ outB (L (200 + (a + n))) (tokP N T a n)).length = _
    rw [List.length_append, List.length_append, i1, j1, hl]
    omega
theorem sEnds_wf (wf : Wf N L) (T : List Int32) {a many : Nat} (hm : many ≤ 8) (ha : ∀ i, i < many → a + i < N 1) : WfO (sEnds N L T a many) := by
  unfold sEnds
  split
  · exact wf
  · refine cIf_el (Q := WfO) (fun _ => wf) (fun _ => ?_)
    obtain ⟨l1, l2⟩ := catT_ok (L := L) N T (a := a) many (fun i hi => ⟨(wf.aa (ha i hi)).2.2.1, (wf.aa (ha i hi)).2.2.2.1⟩)
    refine Wf.l1 ?_ (by rw [l1]; omega) l2
    by_cases h0 : many = 0
    · subst h0; exact wf
    · have := ha (many - 1) (by omega)
      have h60 := wf.2.1
      exact wf.shut many (by omega)
end WF7
