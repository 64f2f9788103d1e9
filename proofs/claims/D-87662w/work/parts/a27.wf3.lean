set_option maxRecDepth 100000
/-! every call keeps what the state lives by: feeding, the fuse -/
section WF3
variable {N : Nat → Nat} {L : Nat → List Int32}
theorem sFeed_wf (wf : Wf N L) (v : Nat → Int32) : WfO (sFeed N L v) := by
  unfold sFeed
  have hl : (b20 v).length = 20 := by unfold b20; rw [List.length_map, List.length_range]
  split
  · exact wf.n6 (by decide)
  · refine (wf.n6 (by decide)).l0 ?_ ?_
    · rw [List.length_append, hl]; omega
    · exact wf.2.2.2.2.2.2.2.2.2.2.1.app (b20_B v)
theorem sAgain_wf (wf : Wf N L) (fr mn : Int32) : WfO (sAgain N L fr mn) := by
  unfold sAgain
  split
  · exact wf.n6 (by decide)
  · rename_i hc
    refine (wf.n6 (by decide)).l0 ?_ ?_
    · rw [List.length_append, sub_len]
      have h4 : ¬ 1200 < (L 0).length + mn.toNatClampNeg := fun z => hc (Or.inr (Or.inr (Or.inr z)))
      omega
    · exact wf.2.2.2.2.2.2.2.2.2.2.1.app (sub_B wf.2.2.2.2.2.2.2.2.2.2.2.1 _ _)
theorem Wf.n3 (wf : Wf N L) {t : Nat} (ht : t ≤ 1001) : Wf (up N 3 t) L := by
  obtain ⟨a0, a1, a2, a3, a4, a5, a6, b0, b1, b2, c0, c1, c2, -, -⟩ := id wf
  exact wf.cg (up_ne (by decide)) (up_ne (by decide)) (fun j hj => up_ne (by omega)) (fun _ _ => rfl) (by rw [up_ne (by decide)]; exact a2) (by rw [up_same]; exact ht) (by rw [up_ne (by decide)]; exact a4) (by rw [up_ne (by decide)]; exact a5) (by rw [up_ne (by decide)]; exact a6) b0 b1 b2 c0 c1 c2
theorem Wf.n5 (wf : Wf N L) {t : Nat} (ht : t ≤ 1) : Wf (up N 5 t) L := by
  obtain ⟨a0, a1, a2, a3, a4, a5, a6, b0, b1, b2, c0, c1, c2, -, -⟩ := id wf
  exact wf.cg (up_ne (by decide)) (up_ne (by decide)) (fun j hj => up_ne (by omega)) (fun _ _ => rfl) (by rw [up_ne (by decide)]; exact a2) (by rw [up_ne (by decide)]; exact a3) (by rw [up_ne (by decide)]; exact a4) (by rw [up_same]; exact ht) (by rw [up_ne (by decide)]; exact a6) b0 b1 b2 c0 c1 c2
theorem sPower_wf (wf : Wf N L) : WfO (sPower N L) := ((wf.n6 (by decide)).n5 (by decide)).n3 (by decide)
theorem sCut_wf (wf : Wf N L) (w : Int32) : WfO (sCut N L w) := by
  unfold sCut
  split
  · exact wf.n6 (by decide)
  · rename_i hc
    refine (wf.n6 (by decide)).n3 ?_
    rcases pk_ix w (show 1001 < 2 ^ 31 by decide) with z | z | ⟨j, hj, rfl⟩
    · exact absurd (Or.inl z) hc
    · exact absurd (Or.inr (Or.inl (Int32.lt_of_lt_of_le (by decide) z))) hc
    · rw [nI_clamp (by omega)]
      omega
end WF3
