set_option maxRecDepth 100000
/-! every call keeps what the state lives by: issuing -/
section WF6
variable {N : Nat → Nat} {L : Nat → List Int32}
theorem catE_len' (P : Nat → PP) (n : Nat) : (catE P n).length ≤ 49 * n := by
  induction n with
  | zero => exact Nat.le_refl _
  | succ n ih =>
    show (catE P n ++ en (P n)).length ≤ _
    rw [List.length_append]
    have := en_len' (P n)
    omega
theorem catE_B' (P : Nat → PP) (n : Nat) : IsB (catE P n) := by
  induction n with
  | zero => intro x hx; cases hx
  | succ n ih => exact ih.app (en_B' _)
theorem cIf_el {α : Type} {p : Prop} {a b : α} {Q : α → Prop} (ha : p → Q a) (hb : ¬ p → Q b) : Q (cIf p a b) := by
  by_cases h : p
  · rw [cIf_t h]; exact ha h
  · rw [cIf_f h]; exact hb h
theorem sGives_wf (wf : Wf N L) (T : List Int32) (k : Nat) {many : Nat} (hm : many ≤ 8) : WfO (sGives N L T k many) := by
  unfold sGives
  refine cIf_el (Q := WfO) (fun _ => wf) (fun _ => ?_)
  split
  · exact wf
  · refine wf.l1 ?_ (((catE_B' _ _).app (byN_B _ _)).app (byN_B _ _))
    rw [List.length_append, List.length_append, byN_len, byN_len]
    have := catE_len' (fun i => mP (N (120 + k)) (eltP T (3 + 49 * i))) many
    omega
theorem sSigns_wf (wf : Wf N L) (T : List Int32) {k : Nat} (hk : k < N 0) : WfO (sSigns N L T k) := by
  unfold sSigns
  split
  · refine wf.l1 ?_ (byN_B _ _)
    rw [byN_len]
    rcases (wf.kk hk).2.2.2 with z | z
    · omega
    · omega
  · exact wf
theorem sIssued_wf (wf : Wf N L) (T : List Int32) {many : Nat} (hm : many ≤ 8) : WfO (sIssued N L T many) := by
  unfold sIssued
  split
  · exact wf
  · rename_i k hk
    split
    · split
      · exact wf
      · exact sGives_wf wf T k hm
    · split
      · exact wf
      · exact sSigns_wf wf T (low_some hk).1
theorem sIssue_wf (wf : Wf N L) : WfO (sIssue N L) := by
  unfold sIssue
  split
  · exact wf.use
  · exact sIssued_wf wf.use _ (by decide)
theorem sIssueMany_wf (wf : Wf N L) (many : Int32) : WfO (sIssueMany N L many) := by
  unfold sIssueMany
  split
  · exact wf.use
  · rename_i hc
    refine sIssued_wf wf.use _ ?_
    rcases pk_ix many (show 9 < 2 ^ 31 by decide) with z | z | ⟨j, hj, rfl⟩
    · exact absurd (Or.inl (Int32.lt_trans z (by decide))) hc
    · exact absurd (Or.inr (Or.inl (Int32.lt_of_lt_of_le (by decide) z))) hc
    · rw [nI_clamp (by omega)]
      omega
end WF6
