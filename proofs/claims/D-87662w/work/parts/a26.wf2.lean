set_option maxRecDepth 100000
/-! every call keeps what the state lives by: the small calls -/
section WF2
variable {N : Nat → Nat} {L : Nat → List Int32}
abbrev WfO (o : O3) : Prop := Wf o.2.1 o.2.2
theorem IsB.take {l : List Int32} (h : IsB l) (n : Nat) : IsB (l.take n) := fun x hx => h x (List.mem_of_mem_take hx)
theorem b20_B (v : Nat → Int32) : IsB (b20 v) := fun x hx => by
  obtain ⟨k, -, rfl⟩ := List.mem_map.mp hx
  generalize v (k / 4) >>> (nI (24 - 8 * (k % 4)) &&& 31) = y
  rw [toInt8_low y]
  exact (toInt8_low (tb (u32 y))).symm.trans (tb8 _)
theorem sOuts_wf (wf : Wf N L) : WfO (sOuts N L) := wf.n6 (by decide)
theorem sOut_wf (wf : Wf N L) (i : Int32) : WfO (sOut N L i) := wf.n6 (by decide)
theorem sDisk_wf (wf : Wf N L) (i : Int32) : WfO (sDisk N L i) := wf.n6 (by decide)
theorem sCount_wf (wf : Wf N L) (i : Int32) : WfO (sCount N L i) := wf.n6 (by decide)
theorem sEnd_wf (wf : Wf N L) (n : Int32) : WfO (sEnd N L n) := by
  unfold sEnd
  split
  · exact wf.n6 (by decide)
  · exact (wf.n6 (by decide)).l0 (Nat.le_trans (List.length_take_le' _ _) wf.2.2.2.2.2.2.2.1) (wf.2.2.2.2.2.2.2.2.2.2.1.take _)
theorem sDigest_wf (wf : Wf N L) : WfO (sDigest N L) := wf.use.l1 (by rw [sha256_len]; decide) (sha256_B _)
end WF2
