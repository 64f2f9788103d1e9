set_option maxRecDepth 100000
/-! every call keeps what the state lives by: finalize -/
section WF8
variable {N : Nat → Nat} {L : Nat → List Int32}
theorem sEnds2_wf (wf : Wf N L) (T : List Int32) {a : Nat} (ha : a < N 1) : WfO (sEnds2 N L T a) := by
  unfold sEnds2
  split
  · exact wf
  · refine cIf_el (Q := WfO) (fun _ => ?_) (fun _ => wf)
    have ao := wf.aa ha
    have h60 := wf.2.1
    refine Wf.l1 (wf.opn (by omega)) ?_ (ao.2.2.2.1.app (byN_B _ _))
    rw [List.length_append, byN_len, ao.2.2.1]
    rcases (wf.kk ao.1).2.2.2 with z | z
    · omega
    · omega
theorem isAsk_use {a : Nat} (h : isAsk N a) : a < (up N 6 0) 1 := by rw [up_ne (by decide)]; exact h.1
theorem sFinal_wf (wf : Wf N L) (a : Int32) : WfO (sFinal N L a) := by
  unfold sFinal
  have w1 : Wf (up N 6 1) (up L 0 []) := (wf.n6 (by decide)).l0 (by decide) (fun x hx => by cases hx)
  refine cIf_el (Q := WfO) (fun h => ?_) (fun _ => w1)
  split
  · exact sEnds_wf wf.use _ (by decide) (fun i hi => by rw [show i = 0 by omega]; exact isAsk_use h.2)
  · exact sEnds2_wf wf.use _ (isAsk_use h.2)
theorem sFinalMany_wf (wf : Wf N L) (a many : Int32) : WfO (sFinalMany N L a many) := by
  unfold sFinalMany
  have w1 : Wf (up N 6 1) (up L 0 []) := (wf.n6 (by decide)).l0 (by decide) (fun x hx => by cases hx)
  refine cIf_el (Q := WfO) (fun h => ?_) (fun _ => w1)
  refine cIf_el (Q := WfO) (fun _ => ?_) (fun _ => wf.use)
  refine sEnds_wf wf.use _ ?_ (fun i hi => isAsk_use (h.2.2.2.2 i hi))
  rcases pk_ix many (show 9 < 2 ^ 31 by decide) with z | z | ⟨j, hj, rfl⟩
  · exact (Int32.lt_irrefl (Int32.lt_of_lt_of_le z (Int32.le_trans (by decide) h.1))).elim
  · exact (Int32.lt_irrefl (Int32.lt_of_lt_of_le (show (8 : Int32) < nI 9 by decide) (Int32.le_trans z h.2.1))).elim
  · rw [nI_clamp (by omega)]
    omega
end WF8
