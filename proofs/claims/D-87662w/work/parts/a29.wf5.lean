set_option maxRecDepth 100000
/-! every call keeps what the state lives by: looks -/
section WF5
variable {N : Nat → Nat} {L : Nat → List Int32}
theorem en_len' (P : PP) : (en P).length ≤ 49 := by
  unfold en
  cases P with
  | none => first | exact Nat.zero_le _ | (simp; done)
  | some p => first | exact Nat.le_of_eq (encB_len _ _) | (simp; done)
theorem en_B' (P : PP) : IsB (en P) := by
  unfold en
  cases P with
  | none => intro x hx; cases hx
  | some p => exact encB_B _ _
theorem tb3_B (a b c : Nat) : IsB [tb a, tb b, tb c] := fun x hx => by
  have h : ∀ v, tb (u32 (tb v)) = tb v := fun v => (toInt8_low (tb v)).symm.trans (tb8 v)
  rcases List.mem_cons.mp hx with rfl | hx
  · exact h a
  rcases List.mem_cons.mp hx with rfl | hx
  · exact h b
  rcases List.mem_cons.mp hx with rfl | hx
  · exact h c
  · cases hx
theorem pubB_ok {k : Nat} (ko : KOk N L k) : (pubB N k).length ≤ 300 ∧ IsB (pubB N k) := by
  unfold pubB
  split
  · exact ⟨Nat.le_trans (en_len' _) (by decide), en_B' _⟩
  · rename_i ht
    obtain ⟨t2, l1, l2, -⟩ := ko.two ht
    refine ⟨?_, (byN_B _ _).app (tb3_B _ _ _)⟩
    rw [List.length_append, byN_len]
    show N (150 + k) + 3 ≤ 300
    omega
theorem sLook_wf (wf : Wf N L) (k w : Int32) : WfO (sLook N L k w) := by
  unfold sLook
  split
  · exact wf.n6 (by decide)
  · rename_i hc
    obtain ⟨j, hj, rfl⟩ := noK_ex wf.1 (fun z => hc (Or.inl z))
    have h6 := wf.1
    have cj : (nI j).toNatClampNeg = j := nI_clamp (by omega)
    have ko := wf.kk hj
    rw [cj]
    split
    · exact (wf.n6 (by decide)).l1 (by rw [ko.2.1]; decide) ko.2.2.1
    · split
      · exact (wf.n6 (by decide)).l1 (Nat.le_trans (pubB_ok ko).1 (by decide)) (pubB_ok ko).2
      · split
        · exact wf.n6 (by decide)
        · split
          · exact wf.n6 (by decide)
          · exact wf.n6 (by decide)
end WF5
